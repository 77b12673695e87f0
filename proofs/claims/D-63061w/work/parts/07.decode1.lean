/-! decode rows (printed by gen/names.py) -/
theorem d_D_init_0 : decode m_D_init.2.1 0 = .ok (.aload_n 0, 1) := by decide +kernel
theorem d_D_init_1 : decode m_D_init.2.1 1 = .ok (.invokespecial 1, 3) := by decide +kernel
theorem d_D_init_4 : decode m_D_init.2.1 4 = .ok (.aload_n 0, 1) := by decide +kernel
theorem d_D_init_5 : decode m_D_init.2.1 5 = .ok (.new 7, 3) := by decide +kernel
theorem d_D_init_8 : decode m_D_init.2.1 8 = .ok (.dup, 1) := by decide +kernel
theorem d_D_init_9 : decode m_D_init.2.1 9 = .ok (.invokespecial 9, 3) := by decide +kernel
theorem d_D_init_12 : decode m_D_init.2.1 12 = .ok (.putfield 10, 3) := by decide +kernel
theorem d_D_init_15 : decode m_D_init.2.1 15 = .ok (.aload_n 0, 1) := by decide +kernel
theorem d_D_init_16 : decode m_D_init.2.1 16 = .ok (.new 7, 3) := by decide +kernel
theorem d_D_init_19 : decode m_D_init.2.1 19 = .ok (.dup, 1) := by decide +kernel
theorem d_D_init_20 : decode m_D_init.2.1 20 = .ok (.invokespecial 9, 3) := by decide +kernel
theorem d_D_init_23 : decode m_D_init.2.1 23 = .ok (.putfield 16, 3) := by decide +kernel
theorem d_D_init_26 : decode m_D_init.2.1 26 = .ok (.aload_n 0, 1) := by decide +kernel
theorem d_D_init_27 : decode m_D_init.2.1 27 = .ok (.new 19, 3) := by decide +kernel
theorem d_D_init_30 : decode m_D_init.2.1 30 = .ok (.dup, 1) := by decide +kernel
theorem d_D_init_31 : decode m_D_init.2.1 31 = .ok (.invokespecial 21, 3) := by decide +kernel
theorem d_D_init_34 : decode m_D_init.2.1 34 = .ok (.putfield 22, 3) := by decide +kernel
theorem d_D_init_37 : decode m_D_init.2.1 37 = .ok (.aload_n 0, 1) := by decide +kernel
theorem d_D_init_38 : decode m_D_init.2.1 38 = .ok (.iconst 2, 1) := by decide +kernel
theorem d_D_init_39 : decode m_D_init.2.1 39 = .ok (.anewarray 26, 3) := by decide +kernel
theorem d_D_init_42 : decode m_D_init.2.1 42 = .ok (.dup, 1) := by decide +kernel
theorem d_D_init_43 : decode m_D_init.2.1 43 = .ok (.iconst 0, 1) := by decide +kernel
theorem d_D_init_44 : decode m_D_init.2.1 44 = .ok (.bipush 6, 2) := by decide +kernel
theorem d_D_init_46 : decode m_D_init.2.1 46 = .ok (.newarray .int, 2) := by decide +kernel
theorem d_D_init_48 : decode m_D_init.2.1 48 = .ok (.dup, 1) := by decide +kernel
theorem d_D_init_49 : decode m_D_init.2.1 49 = .ok (.iconst 0, 1) := by decide +kernel
theorem d_D_init_50 : decode m_D_init.2.1 50 = .ok (.iconst 1, 1) := by decide +kernel
theorem d_D_init_51 : decode m_D_init.2.1 51 = .ok (.iastore, 1) := by decide +kernel
theorem d_D_init_52 : decode m_D_init.2.1 52 = .ok (.dup, 1) := by decide +kernel
theorem d_D_init_53 : decode m_D_init.2.1 53 = .ok (.iconst 1, 1) := by decide +kernel
theorem d_D_init_54 : decode m_D_init.2.1 54 = .ok (.iconst 1, 1) := by decide +kernel
theorem d_D_init_55 : decode m_D_init.2.1 55 = .ok (.iastore, 1) := by decide +kernel
theorem d_D_init_56 : decode m_D_init.2.1 56 = .ok (.dup, 1) := by decide +kernel
theorem d_D_init_57 : decode m_D_init.2.1 57 = .ok (.iconst 2, 1) := by decide +kernel
theorem d_D_init_58 : decode m_D_init.2.1 58 = .ok (.iconst 1, 1) := by decide +kernel
theorem d_D_init_59 : decode m_D_init.2.1 59 = .ok (.iastore, 1) := by decide +kernel
theorem d_D_init_60 : decode m_D_init.2.1 60 = .ok (.dup, 1) := by decide +kernel
theorem d_D_init_61 : decode m_D_init.2.1 61 = .ok (.iconst 3, 1) := by decide +kernel
theorem d_D_init_62 : decode m_D_init.2.1 62 = .ok (.iconst 1, 1) := by decide +kernel
theorem d_D_init_63 : decode m_D_init.2.1 63 = .ok (.iastore, 1) := by decide +kernel
theorem d_D_init_64 : decode m_D_init.2.1 64 = .ok (.dup, 1) := by decide +kernel
theorem d_D_init_65 : decode m_D_init.2.1 65 = .ok (.iconst 4, 1) := by decide +kernel
theorem d_D_init_66 : decode m_D_init.2.1 66 = .ok (.iconst 1, 1) := by decide +kernel
theorem d_D_init_67 : decode m_D_init.2.1 67 = .ok (.iastore, 1) := by decide +kernel
theorem d_D_init_68 : decode m_D_init.2.1 68 = .ok (.dup, 1) := by decide +kernel
theorem d_D_init_69 : decode m_D_init.2.1 69 = .ok (.iconst 5, 1) := by decide +kernel
theorem d_D_init_70 : decode m_D_init.2.1 70 = .ok (.iconst 1, 1) := by decide +kernel
theorem d_D_init_71 : decode m_D_init.2.1 71 = .ok (.iastore, 1) := by decide +kernel
theorem d_D_init_72 : decode m_D_init.2.1 72 = .ok (.aastore, 1) := by decide +kernel
theorem d_D_init_73 : decode m_D_init.2.1 73 = .ok (.dup, 1) := by decide +kernel
theorem d_D_init_74 : decode m_D_init.2.1 74 = .ok (.iconst 1, 1) := by decide +kernel
theorem d_D_init_75 : decode m_D_init.2.1 75 = .ok (.bipush 6, 2) := by decide +kernel
theorem d_D_init_77 : decode m_D_init.2.1 77 = .ok (.newarray .int, 2) := by decide +kernel
theorem d_D_init_79 : decode m_D_init.2.1 79 = .ok (.dup, 1) := by decide +kernel
theorem d_D_init_80 : decode m_D_init.2.1 80 = .ok (.iconst 0, 1) := by decide +kernel
theorem d_D_init_81 : decode m_D_init.2.1 81 = .ok (.iconst 1, 1) := by decide +kernel
theorem d_D_init_82 : decode m_D_init.2.1 82 = .ok (.iastore, 1) := by decide +kernel
theorem d_D_init_83 : decode m_D_init.2.1 83 = .ok (.dup, 1) := by decide +kernel
theorem d_D_init_84 : decode m_D_init.2.1 84 = .ok (.iconst 1, 1) := by decide +kernel
theorem d_D_init_85 : decode m_D_init.2.1 85 = .ok (.iconst 1, 1) := by decide +kernel
theorem d_D_init_86 : decode m_D_init.2.1 86 = .ok (.iastore, 1) := by decide +kernel
theorem d_D_init_87 : decode m_D_init.2.1 87 = .ok (.dup, 1) := by decide +kernel
theorem d_D_init_88 : decode m_D_init.2.1 88 = .ok (.iconst 2, 1) := by decide +kernel
theorem d_D_init_89 : decode m_D_init.2.1 89 = .ok (.iconst 1, 1) := by decide +kernel
theorem d_D_init_90 : decode m_D_init.2.1 90 = .ok (.iastore, 1) := by decide +kernel
theorem d_D_init_91 : decode m_D_init.2.1 91 = .ok (.dup, 1) := by decide +kernel
theorem d_D_init_92 : decode m_D_init.2.1 92 = .ok (.iconst 3, 1) := by decide +kernel
theorem d_D_init_93 : decode m_D_init.2.1 93 = .ok (.iconst 1, 1) := by decide +kernel
theorem d_D_init_94 : decode m_D_init.2.1 94 = .ok (.iastore, 1) := by decide +kernel
theorem d_D_init_95 : decode m_D_init.2.1 95 = .ok (.dup, 1) := by decide +kernel
theorem d_D_init_96 : decode m_D_init.2.1 96 = .ok (.iconst 4, 1) := by decide +kernel
theorem d_D_init_97 : decode m_D_init.2.1 97 = .ok (.iconst 1, 1) := by decide +kernel
theorem d_D_init_98 : decode m_D_init.2.1 98 = .ok (.iastore, 1) := by decide +kernel
theorem d_D_init_99 : decode m_D_init.2.1 99 = .ok (.dup, 1) := by decide +kernel
theorem d_D_init_100 : decode m_D_init.2.1 100 = .ok (.iconst 5, 1) := by decide +kernel
theorem d_D_init_101 : decode m_D_init.2.1 101 = .ok (.iconst 1, 1) := by decide +kernel
theorem d_D_init_102 : decode m_D_init.2.1 102 = .ok (.iastore, 1) := by decide +kernel
theorem d_D_init_103 : decode m_D_init.2.1 103 = .ok (.aastore, 1) := by decide +kernel
theorem d_D_init_104 : decode m_D_init.2.1 104 = .ok (.putfield 28, 3) := by decide +kernel
theorem d_D_init_107 : decode m_D_init.2.1 107 = .ok (.aload_n 0, 1) := by decide +kernel
theorem d_D_init_108 : decode m_D_init.2.1 108 = .ok (.bipush 16, 2) := by decide +kernel
theorem d_D_init_110 : decode m_D_init.2.1 110 = .ok (.newarray .int, 2) := by decide +kernel
theorem d_D_init_112 : decode m_D_init.2.1 112 = .ok (.putfield 32, 3) := by decide +kernel
theorem d_D_init_115 : decode m_D_init.2.1 115 = .ok (.aload_n 0, 1) := by decide +kernel
theorem d_D_init_116 : decode m_D_init.2.1 116 = .ok (.bipush 6, 2) := by decide +kernel
theorem d_D_init_118 : decode m_D_init.2.1 118 = .ok (.newarray .boolean, 2) := by decide +kernel
theorem d_D_init_120 : decode m_D_init.2.1 120 = .ok (.putfield 35, 3) := by decide +kernel
theorem d_D_init_123 : decode m_D_init.2.1 123 = .ok (.aload_n 0, 1) := by decide +kernel
theorem d_D_init_124 : decode m_D_init.2.1 124 = .ok (.bipush 6, 2) := by decide +kernel
theorem d_D_init_126 : decode m_D_init.2.1 126 = .ok (.newarray .boolean, 2) := by decide +kernel
theorem d_D_init_128 : decode m_D_init.2.1 128 = .ok (.putfield 39, 3) := by decide +kernel
theorem d_D_init_131 : decode m_D_init.2.1 131 = .ok (.aload_n 0, 1) := by decide +kernel
theorem d_D_init_132 : decode m_D_init.2.1 132 = .ok (.bipush 6, 2) := by decide +kernel
theorem d_D_init_134 : decode m_D_init.2.1 134 = .ok (.newarray .int, 2) := by decide +kernel
theorem d_D_init_136 : decode m_D_init.2.1 136 = .ok (.putfield 42, 3) := by decide +kernel
theorem d_D_init_139 : decode m_D_init.2.1 139 = .ok (.aload_n 0, 1) := by decide +kernel
theorem d_D_init_140 : decode m_D_init.2.1 140 = .ok (.new 7, 3) := by decide +kernel
theorem d_D_init_143 : decode m_D_init.2.1 143 = .ok (.dup, 1) := by decide +kernel
theorem d_D_init_144 : decode m_D_init.2.1 144 = .ok (.invokespecial 9, 3) := by decide +kernel
theorem d_D_init_147 : decode m_D_init.2.1 147 = .ok (.putfield 45, 3) := by decide +kernel
theorem d_D_init_150 : decode m_D_init.2.1 150 = .ok (.aload_n 0, 1) := by decide +kernel
theorem d_D_init_151 : decode m_D_init.2.1 151 = .ok (.bipush 40, 2) := by decide +kernel
theorem d_D_init_153 : decode m_D_init.2.1 153 = .ok (.bipush 13, 2) := by decide +kernel
theorem d_D_init_155 : decode m_D_init.2.1 155 = .ok (.multianewarray 48 2, 4) := by decide +kernel
theorem d_D_init_159 : decode m_D_init.2.1 159 = .ok (.putfield 50, 3) := by decide +kernel
theorem d_D_init_162 : decode m_D_init.2.1 162 = .ok (.aload_n 0, 1) := by decide +kernel
theorem d_D_init_163 : decode m_D_init.2.1 163 = .ok (.sipush 1000, 3) := by decide +kernel
theorem d_D_init_166 : decode m_D_init.2.1 166 = .ok (.newarray .int, 2) := by decide +kernel
theorem d_D_init_168 : decode m_D_init.2.1 168 = .ok (.putfield 53, 3) := by decide +kernel
theorem d_D_init_171 : decode m_D_init.2.1 171 = .ok (.aload_n 0, 1) := by decide +kernel
theorem d_D_init_172 : decode m_D_init.2.1 172 = .ok (.bipush 30, 2) := by decide +kernel
theorem d_D_init_174 : decode m_D_init.2.1 174 = .ok (.newarray .int, 2) := by decide +kernel
theorem d_D_init_176 : decode m_D_init.2.1 176 = .ok (.putfield 56, 3) := by decide +kernel
theorem d_D_init_179 : decode m_D_init.2.1 179 = .ok (.aload_n 0, 1) := by decide +kernel
theorem d_D_init_180 : decode m_D_init.2.1 180 = .ok (.bipush 6, 2) := by decide +kernel
theorem d_D_init_182 : decode m_D_init.2.1 182 = .ok (.newarray .int, 2) := by decide +kernel
theorem d_D_init_184 : decode m_D_init.2.1 184 = .ok (.putfield 59, 3) := by decide +kernel
theorem d_D_init_187 : decode m_D_init.2.1 187 = .ok (.aload_n 0, 1) := by decide +kernel
theorem d_D_init_188 : decode m_D_init.2.1 188 = .ok (.bipush 41, 2) := by decide +kernel
theorem d_D_init_190 : decode m_D_init.2.1 190 = .ok (.bipush 6, 2) := by decide +kernel
theorem d_D_init_192 : decode m_D_init.2.1 192 = .ok (.multianewarray 62 2, 4) := by decide +kernel
theorem d_D_init_196 : decode m_D_init.2.1 196 = .ok (.putfield 64, 3) := by decide +kernel
theorem d_D_init_199 : decode m_D_init.2.1 199 = .ok (.aload_n 0, 1) := by decide +kernel
theorem d_D_init_200 : decode m_D_init.2.1 200 = .ok (.bipush 41, 2) := by decide +kernel
theorem d_D_init_202 : decode m_D_init.2.1 202 = .ok (.newarray .int, 2) := by decide +kernel
theorem d_D_init_204 : decode m_D_init.2.1 204 = .ok (.putfield 67, 3) := by decide +kernel
theorem d_D_init_207 : decode m_D_init.2.1 207 = .ok (.aload_n 0, 1) := by decide +kernel
theorem d_D_init_208 : decode m_D_init.2.1 208 = .ok (.bipush 41, 2) := by decide +kernel
theorem d_D_init_210 : decode m_D_init.2.1 210 = .ok (.newarray .int, 2) := by decide +kernel
theorem d_D_init_212 : decode m_D_init.2.1 212 = .ok (.putfield 70, 3) := by decide +kernel
theorem d_D_init_215 : decode m_D_init.2.1 215 = .ok (.return_, 1) := by decide +kernel
theorem d_D_write_0 : decode m_D_write.2.1 0 = .ok (.iload_n 1, 1) := by decide +kernel
theorem d_D_write_1 : decode m_D_write.2.1 1 = .ok (.bipush 32, 2) := by decide +kernel
theorem d_D_write_3 : decode m_D_write.2.1 3 = .ok (.if_icmp .lt 21, 3) := by decide +kernel
theorem d_D_write_6 : decode m_D_write.2.1 6 = .ok (.iload_n 1, 1) := by decide +kernel
theorem d_D_write_7 : decode m_D_write.2.1 7 = .ok (.bipush 126, 2) := by decide +kernel
theorem d_D_write_9 : decode m_D_write.2.1 9 = .ok (.if_icmp .gt 15, 3) := by decide +kernel
theorem d_D_write_12 : decode m_D_write.2.1 12 = .ok (.aload_n 0, 1) := by decide +kernel
theorem d_D_write_13 : decode m_D_write.2.1 13 = .ok (.getfield 22, 3) := by decide +kernel
theorem d_D_write_16 : decode m_D_write.2.1 16 = .ok (.invokevirtual 73, 3) := by decide +kernel
theorem d_D_write_19 : decode m_D_write.2.1 19 = .ok (.bipush 10, 2) := by decide +kernel
theorem d_D_write_21 : decode m_D_write.2.1 21 = .ok (.if_icmp .lt 5, 3) := by decide +kernel
theorem d_D_write_24 : decode m_D_write.2.1 24 = .ok (.iconst 0, 1) := by decide +kernel
theorem d_D_write_25 : decode m_D_write.2.1 25 = .ok (.ireturn, 1) := by decide +kernel
theorem d_D_write_26 : decode m_D_write.2.1 26 = .ok (.aload_n 0, 1) := by decide +kernel
theorem d_D_write_27 : decode m_D_write.2.1 27 = .ok (.getfield 22, 3) := by decide +kernel
theorem d_D_write_30 : decode m_D_write.2.1 30 = .ok (.iload_n 1, 1) := by decide +kernel
theorem d_D_write_31 : decode m_D_write.2.1 31 = .ok (.invokevirtual 77, 3) := by decide +kernel
theorem d_D_write_34 : decode m_D_write.2.1 34 = .ok (.pop, 1) := by decide +kernel
theorem d_D_write_35 : decode m_D_write.2.1 35 = .ok (.iconst 1, 1) := by decide +kernel
theorem d_D_write_36 : decode m_D_write.2.1 36 = .ok (.ireturn, 1) := by decide +kernel
theorem d_D_cost_0 : decode m_D_cost.2.1 0 = .ok (.iload_n 1, 1) := by decide +kernel
theorem d_D_cost_1 : decode m_D_cost.2.1 1 = .ok (.ifCond .lt 19, 3) := by decide +kernel
theorem d_D_cost_4 : decode m_D_cost.2.1 4 = .ok (.iload_n 1, 1) := by decide +kernel
theorem d_D_cost_5 : decode m_D_cost.2.1 5 = .ok (.bipush 6, 2) := by decide +kernel
theorem d_D_cost_7 : decode m_D_cost.2.1 7 = .ok (.if_icmp .ge 13, 3) := by decide +kernel
theorem d_D_cost_10 : decode m_D_cost.2.1 10 = .ok (.iload_n 3, 1) := by decide +kernel
theorem d_D_cost_11 : decode m_D_cost.2.1 11 = .ok (.iconst 1, 1) := by decide +kernel
theorem d_D_cost_12 : decode m_D_cost.2.1 12 = .ok (.if_icmp .lt 8, 3) := by decide +kernel
theorem d_D_cost_15 : decode m_D_cost.2.1 15 = .ok (.iload_n 3, 1) := by decide +kernel
theorem d_D_cost_16 : decode m_D_cost.2.1 16 = .ok (.iconst 3, 1) := by decide +kernel
theorem d_D_cost_17 : decode m_D_cost.2.1 17 = .ok (.if_icmp .le 5, 3) := by decide +kernel
theorem d_D_cost_20 : decode m_D_cost.2.1 20 = .ok (.iconst 0, 1) := by decide +kernel
theorem d_D_cost_21 : decode m_D_cost.2.1 21 = .ok (.ireturn, 1) := by decide +kernel
theorem d_D_cost_22 : decode m_D_cost.2.1 22 = .ok (.aload_n 0, 1) := by decide +kernel
theorem d_D_cost_23 : decode m_D_cost.2.1 23 = .ok (.getfield 28, 3) := by decide +kernel
theorem d_D_cost_26 : decode m_D_cost.2.1 26 = .ok (.iload_n 2, 1) := by decide +kernel
theorem d_D_cost_27 : decode m_D_cost.2.1 27 = .ok (.ifCond .eq 7, 3) := by decide +kernel
theorem d_D_cost_30 : decode m_D_cost.2.1 30 = .ok (.iconst 1, 1) := by decide +kernel
theorem d_D_cost_31 : decode m_D_cost.2.1 31 = .ok (.goto 4, 3) := by decide +kernel
theorem d_D_cost_34 : decode m_D_cost.2.1 34 = .ok (.iconst 0, 1) := by decide +kernel
theorem d_D_cost_35 : decode m_D_cost.2.1 35 = .ok (.aaload, 1) := by decide +kernel
theorem d_D_cost_36 : decode m_D_cost.2.1 36 = .ok (.iload_n 1, 1) := by decide +kernel
theorem d_D_cost_37 : decode m_D_cost.2.1 37 = .ok (.iload_n 3, 1) := by decide +kernel
theorem d_D_cost_38 : decode m_D_cost.2.1 38 = .ok (.iastore, 1) := by decide +kernel
theorem d_D_cost_39 : decode m_D_cost.2.1 39 = .ok (.iconst 1, 1) := by decide +kernel
theorem d_D_cost_40 : decode m_D_cost.2.1 40 = .ok (.ireturn, 1) := by decide +kernel
theorem d_D_step_0 : decode m_D_step.2.1 0 = .ok (.iload_n 1, 1) := by decide +kernel
theorem d_D_step_1 : decode m_D_step.2.1 1 = .ok (.ifCond .lt 25, 3) := by decide +kernel
theorem d_D_step_4 : decode m_D_step.2.1 4 = .ok (.iload_n 1, 1) := by decide +kernel
theorem d_D_step_5 : decode m_D_step.2.1 5 = .ok (.aload_n 0, 1) := by decide +kernel
theorem d_D_step_6 : decode m_D_step.2.1 6 = .ok (.getfield 95, 3) := by decide +kernel
theorem d_D_step_9 : decode m_D_step.2.1 9 = .ok (.if_icmp .ge 17, 3) := by decide +kernel
theorem d_D_step_12 : decode m_D_step.2.1 12 = .ok (.iload_n 2, 1) := by decide +kernel
theorem d_D_step_13 : decode m_D_step.2.1 13 = .ok (.ifCond .lt 13, 3) := by decide +kernel
theorem d_D_step_16 : decode m_D_step.2.1 16 = .ok (.iload_n 2, 1) := by decide +kernel
theorem d_D_step_17 : decode m_D_step.2.1 17 = .ok (.aload_n 0, 1) := by decide +kernel
theorem d_D_step_18 : decode m_D_step.2.1 18 = .ok (.getfield 67, 3) := by decide +kernel
theorem d_D_step_21 : decode m_D_step.2.1 21 = .ok (.iload_n 1, 1) := by decide +kernel
theorem d_D_step_22 : decode m_D_step.2.1 22 = .ok (.iaload, 1) := by decide +kernel
theorem d_D_step_23 : decode m_D_step.2.1 23 = .ok (.if_icmp .lt 7, 3) := by decide +kernel
theorem d_D_step_26 : decode m_D_step.2.1 26 = .ok (.iconst (-1), 1) := by decide +kernel
theorem d_D_step_27 : decode m_D_step.2.1 27 = .ok (.goto 11, 3) := by decide +kernel
theorem d_D_step_30 : decode m_D_step.2.1 30 = .ok (.aload_n 0, 1) := by decide +kernel
theorem d_D_step_31 : decode m_D_step.2.1 31 = .ok (.getfield 64, 3) := by decide +kernel
theorem d_D_step_34 : decode m_D_step.2.1 34 = .ok (.iload_n 1, 1) := by decide +kernel
theorem d_D_step_35 : decode m_D_step.2.1 35 = .ok (.aaload, 1) := by decide +kernel
theorem d_D_step_36 : decode m_D_step.2.1 36 = .ok (.iload_n 2, 1) := by decide +kernel
theorem d_D_step_37 : decode m_D_step.2.1 37 = .ok (.baload, 1) := by decide +kernel
theorem d_D_step_38 : decode m_D_step.2.1 38 = .ok (.ireturn, 1) := by decide +kernel
theorem d_D_price_0 : decode m_D_price.2.1 0 = .ok (.aload_n 0, 1) := by decide +kernel
theorem d_D_price_1 : decode m_D_price.2.1 1 = .ok (.getfield 99, 3) := by decide +kernel
theorem d_D_price_4 : decode m_D_price.2.1 4 = .ok (.ireturn, 1) := by decide +kernel
theorem d_D_letter_0 : decode m_D_letter.2.1 0 = .ok (.iload_n 1, 1) := by decide +kernel
theorem d_D_letter_1 : decode m_D_letter.2.1 1 = .ok (.ifCond .lt 11, 3) := by decide +kernel
theorem d_D_letter_4 : decode m_D_letter.2.1 4 = .ok (.iload_n 1, 1) := by decide +kernel
theorem d_D_letter_5 : decode m_D_letter.2.1 5 = .ok (.aload_n 0, 1) := by decide +kernel
theorem d_D_letter_6 : decode m_D_letter.2.1 6 = .ok (.getfield 236, 3) := by decide +kernel
theorem d_D_letter_9 : decode m_D_letter.2.1 9 = .ok (.if_icmp .lt 7, 3) := by decide +kernel
theorem d_D_letter_12 : decode m_D_letter.2.1 12 = .ok (.iconst (-1), 1) := by decide +kernel
theorem d_D_letter_13 : decode m_D_letter.2.1 13 = .ok (.goto 9, 3) := by decide +kernel
theorem d_D_letter_16 : decode m_D_letter.2.1 16 = .ok (.aload_n 0, 1) := by decide +kernel
theorem d_D_letter_17 : decode m_D_letter.2.1 17 = .ok (.getfield 32, 3) := by decide +kernel
theorem d_D_letter_20 : decode m_D_letter.2.1 20 = .ok (.iload_n 1, 1) := by decide +kernel
theorem d_D_letter_21 : decode m_D_letter.2.1 21 = .ok (.iaload, 1) := by decide +kernel
theorem d_D_letter_22 : decode m_D_letter.2.1 22 = .ok (.ireturn, 1) := by decide +kernel
theorem d_D_count_0 : decode m_D_count.2.1 0 = .ok (.iload_n 1, 1) := by decide +kernel
theorem d_D_count_1 : decode m_D_count.2.1 1 = .ok (.tableswitch 67 0 2 #[27, 35, 51], 27) := by decide +kernel
theorem d_D_count_28 : decode m_D_count.2.1 28 = .ok (.aload_n 0, 1) := by decide +kernel
theorem d_D_count_29 : decode m_D_count.2.1 29 = .ok (.getfield 10, 3) := by decide +kernel
theorem d_D_count_32 : decode m_D_count.2.1 32 = .ok (.invokevirtual 128, 3) := by decide +kernel
theorem d_D_count_35 : decode m_D_count.2.1 35 = .ok (.ireturn, 1) := by decide +kernel
theorem d_D_count_36 : decode m_D_count.2.1 36 = .ok (.aload_n 0, 1) := by decide +kernel
theorem d_D_count_37 : decode m_D_count.2.1 37 = .ok (.getfield 146, 3) := by decide +kernel
theorem d_D_count_40 : decode m_D_count.2.1 40 = .ok (.ifCond .eq 10, 3) := by decide +kernel
theorem d_D_count_43 : decode m_D_count.2.1 43 = .ok (.aload_n 0, 1) := by decide +kernel
theorem d_D_count_44 : decode m_D_count.2.1 44 = .ok (.getfield 197, 3) := by decide +kernel
theorem d_D_count_47 : decode m_D_count.2.1 47 = .ok (.goto 4, 3) := by decide +kernel
theorem d_D_count_50 : decode m_D_count.2.1 50 = .ok (.iconst 0, 1) := by decide +kernel
theorem d_D_count_51 : decode m_D_count.2.1 51 = .ok (.ireturn, 1) := by decide +kernel
theorem d_D_count_52 : decode m_D_count.2.1 52 = .ok (.aload_n 0, 1) := by decide +kernel
theorem d_D_count_53 : decode m_D_count.2.1 53 = .ok (.getfield 146, 3) := by decide +kernel
theorem d_D_count_56 : decode m_D_count.2.1 56 = .ok (.ifCond .eq 10, 3) := by decide +kernel
theorem d_D_count_59 : decode m_D_count.2.1 59 = .ok (.aload_n 0, 1) := by decide +kernel
theorem d_D_count_60 : decode m_D_count.2.1 60 = .ok (.getfield 232, 3) := by decide +kernel
theorem d_D_count_63 : decode m_D_count.2.1 63 = .ok (.goto 4, 3) := by decide +kernel
theorem d_D_count_66 : decode m_D_count.2.1 66 = .ok (.iconst 0, 1) := by decide +kernel
theorem d_D_count_67 : decode m_D_count.2.1 67 = .ok (.ireturn, 1) := by decide +kernel
theorem d_D_count_68 : decode m_D_count.2.1 68 = .ok (.iconst (-1), 1) := by decide +kernel
theorem d_D_count_69 : decode m_D_count.2.1 69 = .ok (.ireturn, 1) := by decide +kernel
theorem d_D_rule_0 : decode m_D_rule.2.1 0 = .ok (.aload_n 0, 1) := by decide +kernel
theorem d_D_rule_1 : decode m_D_rule.2.1 1 = .ok (.invokevirtual 102, 3) := by decide +kernel
theorem d_D_rule_4 : decode m_D_rule.2.1 4 = .ok (.astore_n 1, 1) := by decide +kernel
theorem d_D_rule_5 : decode m_D_rule.2.1 5 = .ok (.aload_n 1, 1) := by decide +kernel
theorem d_D_rule_6 : decode m_D_rule.2.1 6 = .ok (.invokevirtual 105, 3) := by decide +kernel
theorem d_D_rule_9 : decode m_D_rule.2.1 9 = .ok (.iconst 2, 1) := by decide +kernel
theorem d_D_rule_10 : decode m_D_rule.2.1 10 = .ok (.if_icmp .lt 37, 3) := by decide +kernel
theorem d_D_rule_13 : decode m_D_rule.2.1 13 = .ok (.aload_n 1, 1) := by decide +kernel
theorem d_D_rule_14 : decode m_D_rule.2.1 14 = .ok (.invokevirtual 105, 3) := by decide +kernel
theorem d_D_rule_17 : decode m_D_rule.2.1 17 = .ok (.bipush 6, 2) := by decide +kernel
theorem d_D_rule_19 : decode m_D_rule.2.1 19 = .ok (.if_icmp .gt 28, 3) := by decide +kernel
theorem d_D_rule_22 : decode m_D_rule.2.1 22 = .ok (.aload_n 1, 1) := by decide +kernel
theorem d_D_rule_23 : decode m_D_rule.2.1 23 = .ok (.iconst 0, 1) := by decide +kernel
theorem d_D_rule_24 : decode m_D_rule.2.1 24 = .ok (.invokevirtual 108, 3) := by decide +kernel
theorem d_D_rule_27 : decode m_D_rule.2.1 27 = .ok (.invokestatic 112, 3) := by decide +kernel
theorem d_D_rule_30 : decode m_D_rule.2.1 30 = .ok (.ifCond .eq 17, 3) := by decide +kernel
theorem d_D_rule_33 : decode m_D_rule.2.1 33 = .ok (.aload_n 1, 1) := by decide +kernel
theorem d_D_rule_34 : decode m_D_rule.2.1 34 = .ok (.iconst 1, 1) := by decide +kernel
theorem d_D_rule_35 : decode m_D_rule.2.1 35 = .ok (.invokevirtual 108, 3) := by decide +kernel
theorem d_D_rule_38 : decode m_D_rule.2.1 38 = .ok (.bipush 61, 2) := by decide +kernel
theorem d_D_rule_40 : decode m_D_rule.2.1 40 = .ok (.if_icmp .ne 7, 3) := by decide +kernel
theorem d_D_rule_43 : decode m_D_rule.2.1 43 = .ok (.iconst 1, 1) := by decide +kernel
theorem d_D_rule_44 : decode m_D_rule.2.1 44 = .ok (.goto 4, 3) := by decide +kernel
theorem d_D_rule_47 : decode m_D_rule.2.1 47 = .ok (.iconst 0, 1) := by decide +kernel
theorem d_D_rule_48 : decode m_D_rule.2.1 48 = .ok (.invokestatic 116, 3) := by decide +kernel
theorem d_D_rule_51 : decode m_D_rule.2.1 51 = .ok (.aload_n 1, 1) := by decide +kernel
theorem d_D_rule_52 : decode m_D_rule.2.1 52 = .ok (.invokevirtual 105, 3) := by decide +kernel
theorem d_D_rule_55 : decode m_D_rule.2.1 55 = .ok (.iconst 2, 1) := by decide +kernel
theorem d_D_rule_56 : decode m_D_rule.2.1 56 = .ok (.isub, 1) := by decide +kernel
theorem d_D_rule_57 : decode m_D_rule.2.1 57 = .ok (.newarray .int, 2) := by decide +kernel
theorem d_D_rule_59 : decode m_D_rule.2.1 59 = .ok (.astore_n 2, 1) := by decide +kernel
theorem d_D_rule_60 : decode m_D_rule.2.1 60 = .ok (.iconst 0, 1) := by decide +kernel
theorem d_D_rule_61 : decode m_D_rule.2.1 61 = .ok (.istore_n 3, 1) := by decide +kernel
theorem d_D_rule_62 : decode m_D_rule.2.1 62 = .ok (.iload_n 3, 1) := by decide +kernel
theorem d_D_rule_63 : decode m_D_rule.2.1 63 = .ok (.aload_n 2, 1) := by decide +kernel
theorem d_D_rule_64 : decode m_D_rule.2.1 64 = .ok (.arraylength, 1) := by decide +kernel
theorem d_D_rule_65 : decode m_D_rule.2.1 65 = .ok (.if_icmp .ge 69, 3) := by decide +kernel
theorem d_D_rule_68 : decode m_D_rule.2.1 68 = .ok (.aload_n 1, 1) := by decide +kernel
theorem d_D_rule_69 : decode m_D_rule.2.1 69 = .ok (.iload_n 3, 1) := by decide +kernel
theorem d_D_rule_70 : decode m_D_rule.2.1 70 = .ok (.iconst 2, 1) := by decide +kernel
theorem d_D_rule_71 : decode m_D_rule.2.1 71 = .ok (.iadd, 1) := by decide +kernel
theorem d_D_rule_72 : decode m_D_rule.2.1 72 = .ok (.invokevirtual 108, 3) := by decide +kernel
theorem d_D_rule_75 : decode m_D_rule.2.1 75 = .ok (.istore 4, 2) := by decide +kernel
theorem d_D_rule_77 : decode m_D_rule.2.1 77 = .ok (.iload 4, 2) := by decide +kernel
theorem d_D_rule_79 : decode m_D_rule.2.1 79 = .ok (.invokestatic 112, 3) := by decide +kernel
theorem d_D_rule_82 : decode m_D_rule.2.1 82 = .ok (.ifCond .ne 11, 3) := by decide +kernel
theorem d_D_rule_85 : decode m_D_rule.2.1 85 = .ok (.iload 4, 2) := by decide +kernel
theorem d_D_rule_87 : decode m_D_rule.2.1 87 = .ok (.invokestatic 120, 3) := by decide +kernel
theorem d_D_rule_90 : decode m_D_rule.2.1 90 = .ok (.ifCond .eq 7, 3) := by decide +kernel
theorem d_D_rule_93 : decode m_D_rule.2.1 93 = .ok (.iconst 1, 1) := by decide +kernel
theorem d_D_rule_94 : decode m_D_rule.2.1 94 = .ok (.goto 4, 3) := by decide +kernel
theorem d_D_rule_97 : decode m_D_rule.2.1 97 = .ok (.iconst 0, 1) := by decide +kernel
theorem d_D_rule_98 : decode m_D_rule.2.1 98 = .ok (.invokestatic 116, 3) := by decide +kernel
theorem d_D_rule_101 : decode m_D_rule.2.1 101 = .ok (.aload_n 2, 1) := by decide +kernel
theorem d_D_rule_102 : decode m_D_rule.2.1 102 = .ok (.iload_n 3, 1) := by decide +kernel
theorem d_D_rule_103 : decode m_D_rule.2.1 103 = .ok (.iload 4, 2) := by decide +kernel
theorem d_D_rule_105 : decode m_D_rule.2.1 105 = .ok (.invokestatic 112, 3) := by decide +kernel
theorem d_D_rule_108 : decode m_D_rule.2.1 108 = .ok (.ifCond .eq 14, 3) := by decide +kernel
theorem d_D_rule_111 : decode m_D_rule.2.1 111 = .ok (.bipush 7, 2) := by decide +kernel
theorem d_D_rule_113 : decode m_D_rule.2.1 113 = .ok (.iload 4, 2) := by decide +kernel
theorem d_D_rule_115 : decode m_D_rule.2.1 115 = .ok (.iadd, 1) := by decide +kernel
theorem d_D_rule_116 : decode m_D_rule.2.1 116 = .ok (.bipush 65, 2) := by decide +kernel
theorem d_D_rule_118 : decode m_D_rule.2.1 118 = .ok (.isub, 1) := by decide +kernel
theorem d_D_rule_119 : decode m_D_rule.2.1 119 = .ok (.goto 8, 3) := by decide +kernel
theorem d_D_rule_122 : decode m_D_rule.2.1 122 = .ok (.iload 4, 2) := by decide +kernel
theorem d_D_rule_124 : decode m_D_rule.2.1 124 = .ok (.bipush 97, 2) := by decide +kernel
theorem d_D_rule_126 : decode m_D_rule.2.1 126 = .ok (.isub, 1) := by decide +kernel
theorem d_D_rule_127 : decode m_D_rule.2.1 127 = .ok (.iastore, 1) := by decide +kernel
theorem d_D_rule_128 : decode m_D_rule.2.1 128 = .ok (.iinc 3 1, 3) := by decide +kernel
theorem d_D_rule_131 : decode m_D_rule.2.1 131 = .ok (.goto (-69), 3) := by decide +kernel
theorem d_D_rule_134 : decode m_D_rule.2.1 134 = .ok (.new 123, 3) := by decide +kernel
theorem d_D_rule_137 : decode m_D_rule.2.1 137 = .ok (.dup, 1) := by decide +kernel
theorem d_D_rule_138 : decode m_D_rule.2.1 138 = .ok (.bipush 7, 2) := by decide +kernel
theorem d_D_rule_140 : decode m_D_rule.2.1 140 = .ok (.aload_n 1, 1) := by decide +kernel
theorem d_D_rule_141 : decode m_D_rule.2.1 141 = .ok (.iconst 0, 1) := by decide +kernel
theorem d_D_rule_142 : decode m_D_rule.2.1 142 = .ok (.invokevirtual 108, 3) := by decide +kernel
theorem d_D_rule_145 : decode m_D_rule.2.1 145 = .ok (.iadd, 1) := by decide +kernel
theorem d_D_rule_146 : decode m_D_rule.2.1 146 = .ok (.bipush 65, 2) := by decide +kernel
theorem d_D_rule_148 : decode m_D_rule.2.1 148 = .ok (.isub, 1) := by decide +kernel
theorem d_D_rule_149 : decode m_D_rule.2.1 149 = .ok (.aload_n 2, 1) := by decide +kernel
theorem d_D_rule_150 : decode m_D_rule.2.1 150 = .ok (.invokespecial 125, 3) := by decide +kernel
theorem d_D_rule_153 : decode m_D_rule.2.1 153 = .ok (.astore_n 3, 1) := by decide +kernel
theorem d_D_rule_154 : decode m_D_rule.2.1 154 = .ok (.iconst 0, 1) := by decide +kernel
theorem d_D_rule_155 : decode m_D_rule.2.1 155 = .ok (.istore 4, 2) := by decide +kernel
theorem d_D_rule_157 : decode m_D_rule.2.1 157 = .ok (.iload 4, 2) := by decide +kernel
theorem d_D_rule_159 : decode m_D_rule.2.1 159 = .ok (.aload_n 0, 1) := by decide +kernel
theorem d_D_rule_160 : decode m_D_rule.2.1 160 = .ok (.getfield 10, 3) := by decide +kernel
theorem d_D_rule_163 : decode m_D_rule.2.1 163 = .ok (.invokevirtual 128, 3) := by decide +kernel
theorem d_D_rule_166 : decode m_D_rule.2.1 166 = .ok (.if_icmp .ge 36, 3) := by decide +kernel
theorem d_D_rule_169 : decode m_D_rule.2.1 169 = .ok (.aload_n 0, 1) := by decide +kernel
theorem d_D_rule_170 : decode m_D_rule.2.1 170 = .ok (.getfield 10, 3) := by decide +kernel
theorem d_D_rule_173 : decode m_D_rule.2.1 173 = .ok (.iload 4, 2) := by decide +kernel
theorem d_D_rule_175 : decode m_D_rule.2.1 175 = .ok (.invokevirtual 131, 3) := by decide +kernel
theorem d_D_rule_178 : decode m_D_rule.2.1 178 = .ok (.checkcast 123, 3) := by decide +kernel
theorem d_D_rule_181 : decode m_D_rule.2.1 181 = .ok (.aload_n 3, 1) := by decide +kernel
theorem d_D_rule_182 : decode m_D_rule.2.1 182 = .ok (.invokevirtual 135, 3) := by decide +kernel
theorem d_D_rule_185 : decode m_D_rule.2.1 185 = .ok (.ifCond .ne 7, 3) := by decide +kernel
theorem d_D_rule_188 : decode m_D_rule.2.1 188 = .ok (.iconst 1, 1) := by decide +kernel
theorem d_D_rule_189 : decode m_D_rule.2.1 189 = .ok (.goto 4, 3) := by decide +kernel
theorem d_D_rule_192 : decode m_D_rule.2.1 192 = .ok (.iconst 0, 1) := by decide +kernel
theorem d_D_rule_193 : decode m_D_rule.2.1 193 = .ok (.invokestatic 116, 3) := by decide +kernel
theorem d_D_rule_196 : decode m_D_rule.2.1 196 = .ok (.iinc 4 1, 3) := by decide +kernel
theorem d_D_rule_199 : decode m_D_rule.2.1 199 = .ok (.goto (-42), 3) := by decide +kernel
theorem d_D_rule_202 : decode m_D_rule.2.1 202 = .ok (.aload_n 0, 1) := by decide +kernel
theorem d_D_rule_203 : decode m_D_rule.2.1 203 = .ok (.getfield 10, 3) := by decide +kernel
theorem d_D_rule_206 : decode m_D_rule.2.1 206 = .ok (.invokevirtual 128, 3) := by decide +kernel
theorem d_D_rule_209 : decode m_D_rule.2.1 209 = .ok (.bipush 10, 2) := by decide +kernel
theorem d_D_rule_211 : decode m_D_rule.2.1 211 = .ok (.if_icmp .ge 7, 3) := by decide +kernel
theorem d_D_rule_214 : decode m_D_rule.2.1 214 = .ok (.iconst 1, 1) := by decide +kernel
theorem d_D_rule_215 : decode m_D_rule.2.1 215 = .ok (.goto 4, 3) := by decide +kernel
theorem d_D_rule_218 : decode m_D_rule.2.1 218 = .ok (.iconst 0, 1) := by decide +kernel
theorem d_D_rule_219 : decode m_D_rule.2.1 219 = .ok (.invokestatic 139, 3) := by decide +kernel
theorem d_D_rule_222 : decode m_D_rule.2.1 222 = .ok (.aload_n 0, 1) := by decide +kernel
theorem d_D_rule_223 : decode m_D_rule.2.1 223 = .ok (.getfield 10, 3) := by decide +kernel
theorem d_D_rule_226 : decode m_D_rule.2.1 226 = .ok (.aload_n 3, 1) := by decide +kernel
theorem d_D_rule_227 : decode m_D_rule.2.1 227 = .ok (.invokevirtual 142, 3) := by decide +kernel
theorem d_D_rule_230 : decode m_D_rule.2.1 230 = .ok (.pop, 1) := by decide +kernel
theorem d_D_rule_231 : decode m_D_rule.2.1 231 = .ok (.aload_n 0, 1) := by decide +kernel
theorem d_D_rule_232 : decode m_D_rule.2.1 232 = .ok (.iconst 0, 1) := by decide +kernel
theorem d_D_rule_233 : decode m_D_rule.2.1 233 = .ok (.putfield 146, 3) := by decide +kernel
theorem d_D_rule_236 : decode m_D_rule.2.1 236 = .ok (.aload_n 0, 1) := by decide +kernel
theorem d_D_rule_237 : decode m_D_rule.2.1 237 = .ok (.invokevirtual 150, 3) := by decide +kernel
theorem d_D_rule_240 : decode m_D_rule.2.1 240 = .ok (.aload_n 0, 1) := by decide +kernel
theorem d_D_rule_241 : decode m_D_rule.2.1 241 = .ok (.getfield 10, 3) := by decide +kernel
theorem d_D_rule_244 : decode m_D_rule.2.1 244 = .ok (.invokevirtual 128, 3) := by decide +kernel
theorem d_D_rule_247 : decode m_D_rule.2.1 247 = .ok (.iconst 1, 1) := by decide +kernel
theorem d_D_rule_248 : decode m_D_rule.2.1 248 = .ok (.isub, 1) := by decide +kernel
theorem d_D_rule_249 : decode m_D_rule.2.1 249 = .ok (.ireturn, 1) := by decide +kernel
theorem d_D_taken_0 : decode m_D_taken.2.1 0 = .ok (.aload_n 0, 1) := by decide +kernel
theorem d_D_taken_1 : decode m_D_taken.2.1 1 = .ok (.getfield 22, 3) := by decide +kernel
theorem d_D_taken_4 : decode m_D_taken.2.1 4 = .ok (.invokevirtual 87, 3) := by decide +kernel
theorem d_D_taken_7 : decode m_D_taken.2.1 7 = .ok (.astore_n 1, 1) := by decide +kernel
theorem d_D_taken_8 : decode m_D_taken.2.1 8 = .ok (.aload_n 0, 1) := by decide +kernel
theorem d_D_taken_9 : decode m_D_taken.2.1 9 = .ok (.getfield 22, 3) := by decide +kernel
theorem d_D_taken_12 : decode m_D_taken.2.1 12 = .ok (.iconst 0, 1) := by decide +kernel
theorem d_D_taken_13 : decode m_D_taken.2.1 13 = .ok (.invokevirtual 91, 3) := by decide +kernel
theorem d_D_taken_16 : decode m_D_taken.2.1 16 = .ok (.aload_n 1, 1) := by decide +kernel
theorem d_D_taken_17 : decode m_D_taken.2.1 17 = .ok (.areturn, 1) := by decide +kernel
theorem d_D_isName_0 : decode m_D_isName.2.1 0 = .ok (.iload_n 0, 1) := by decide +kernel
theorem d_D_isName_1 : decode m_D_isName.2.1 1 = .ok (.bipush 65, 2) := by decide +kernel
theorem d_D_isName_3 : decode m_D_isName.2.1 3 = .ok (.if_icmp .lt 13, 3) := by decide +kernel
theorem d_D_isName_6 : decode m_D_isName.2.1 6 = .ok (.iload_n 0, 1) := by decide +kernel
theorem d_D_isName_7 : decode m_D_isName.2.1 7 = .ok (.bipush 70, 2) := by decide +kernel
theorem d_D_isName_9 : decode m_D_isName.2.1 9 = .ok (.if_icmp .gt 7, 3) := by decide +kernel
theorem d_D_isName_12 : decode m_D_isName.2.1 12 = .ok (.iconst 1, 1) := by decide +kernel
theorem d_D_isName_13 : decode m_D_isName.2.1 13 = .ok (.goto 4, 3) := by decide +kernel
theorem d_D_isName_16 : decode m_D_isName.2.1 16 = .ok (.iconst 0, 1) := by decide +kernel
theorem d_D_isName_17 : decode m_D_isName.2.1 17 = .ok (.ireturn, 1) := by decide +kernel
theorem d_D_need_0 : decode m_D_need.2.1 0 = .ok (.iload_n 0, 1) := by decide +kernel
theorem d_D_need_1 : decode m_D_need.2.1 1 = .ok (.ifCond .ne 11, 3) := by decide +kernel
theorem d_D_need_4 : decode m_D_need.2.1 4 = .ok (.new 81, 3) := by decide +kernel
theorem d_D_need_7 : decode m_D_need.2.1 7 = .ok (.dup, 1) := by decide +kernel
theorem d_D_need_8 : decode m_D_need.2.1 8 = .ok (.invokespecial 83, 3) := by decide +kernel
theorem d_D_need_11 : decode m_D_need.2.1 11 = .ok (.athrow, 1) := by decide +kernel
theorem d_D_need_12 : decode m_D_need.2.1 12 = .ok (.return_, 1) := by decide +kernel
theorem d_D_isLetter_0 : decode m_D_isLetter.2.1 0 = .ok (.iload_n 0, 1) := by decide +kernel
theorem d_D_isLetter_1 : decode m_D_isLetter.2.1 1 = .ok (.bipush 97, 2) := by decide +kernel
theorem d_D_isLetter_3 : decode m_D_isLetter.2.1 3 = .ok (.if_icmp .lt 13, 3) := by decide +kernel
theorem d_D_isLetter_6 : decode m_D_isLetter.2.1 6 = .ok (.iload_n 0, 1) := by decide +kernel
theorem d_D_isLetter_7 : decode m_D_isLetter.2.1 7 = .ok (.bipush 102, 2) := by decide +kernel
theorem d_D_isLetter_9 : decode m_D_isLetter.2.1 9 = .ok (.if_icmp .gt 7, 3) := by decide +kernel
theorem d_D_isLetter_12 : decode m_D_isLetter.2.1 12 = .ok (.iconst 1, 1) := by decide +kernel
theorem d_D_isLetter_13 : decode m_D_isLetter.2.1 13 = .ok (.goto 4, 3) := by decide +kernel
theorem d_D_isLetter_16 : decode m_D_isLetter.2.1 16 = .ok (.iconst 0, 1) := by decide +kernel
theorem d_D_isLetter_17 : decode m_D_isLetter.2.1 17 = .ok (.ireturn, 1) := by decide +kernel
theorem d_R_init_0 : decode m_R_init.2.1 0 = .ok (.aload_n 0, 1) := by decide +kernel
theorem d_R_init_1 : decode m_R_init.2.1 1 = .ok (.invokespecial 1, 3) := by decide +kernel
theorem d_R_init_4 : decode m_R_init.2.1 4 = .ok (.aload_n 0, 1) := by decide +kernel
theorem d_R_init_5 : decode m_R_init.2.1 5 = .ok (.iload_n 1, 1) := by decide +kernel
theorem d_R_init_6 : decode m_R_init.2.1 6 = .ok (.putfield 7, 3) := by decide +kernel
theorem d_R_init_9 : decode m_R_init.2.1 9 = .ok (.aload_n 0, 1) := by decide +kernel
theorem d_R_init_10 : decode m_R_init.2.1 10 = .ok (.aload_n 2, 1) := by decide +kernel
theorem d_R_init_11 : decode m_R_init.2.1 11 = .ok (.putfield 13, 3) := by decide +kernel
theorem d_R_init_14 : decode m_R_init.2.1 14 = .ok (.return_, 1) := by decide +kernel
theorem d_R_alike_0 : decode m_R_alike.2.1 0 = .ok (.aload_n 0, 1) := by decide +kernel
theorem d_R_alike_1 : decode m_R_alike.2.1 1 = .ok (.getfield 7, 3) := by decide +kernel
theorem d_R_alike_4 : decode m_R_alike.2.1 4 = .ok (.aload_n 1, 1) := by decide +kernel
theorem d_R_alike_5 : decode m_R_alike.2.1 5 = .ok (.getfield 7, 3) := by decide +kernel
theorem d_R_alike_8 : decode m_R_alike.2.1 8 = .ok (.if_icmp .ne 20, 3) := by decide +kernel
theorem d_R_alike_11 : decode m_R_alike.2.1 11 = .ok (.aload_n 0, 1) := by decide +kernel
theorem d_R_alike_12 : decode m_R_alike.2.1 12 = .ok (.getfield 13, 3) := by decide +kernel
theorem d_R_alike_15 : decode m_R_alike.2.1 15 = .ok (.arraylength, 1) := by decide +kernel
theorem d_R_alike_16 : decode m_R_alike.2.1 16 = .ok (.aload_n 1, 1) := by decide +kernel
theorem d_R_alike_17 : decode m_R_alike.2.1 17 = .ok (.getfield 13, 3) := by decide +kernel
theorem d_R_alike_20 : decode m_R_alike.2.1 20 = .ok (.arraylength, 1) := by decide +kernel
theorem d_R_alike_21 : decode m_R_alike.2.1 21 = .ok (.if_icmp .ne 7, 3) := by decide +kernel
theorem d_R_alike_24 : decode m_R_alike.2.1 24 = .ok (.iconst 1, 1) := by decide +kernel
theorem d_R_alike_25 : decode m_R_alike.2.1 25 = .ok (.goto 4, 3) := by decide +kernel
theorem d_R_alike_28 : decode m_R_alike.2.1 28 = .ok (.iconst 0, 1) := by decide +kernel
theorem d_R_alike_29 : decode m_R_alike.2.1 29 = .ok (.istore_n 2, 1) := by decide +kernel
theorem d_R_alike_30 : decode m_R_alike.2.1 30 = .ok (.iconst 0, 1) := by decide +kernel
theorem d_R_alike_31 : decode m_R_alike.2.1 31 = .ok (.istore_n 3, 1) := by decide +kernel
theorem d_R_alike_32 : decode m_R_alike.2.1 32 = .ok (.iload_n 3, 1) := by decide +kernel
theorem d_R_alike_33 : decode m_R_alike.2.1 33 = .ok (.aload_n 0, 1) := by decide +kernel
theorem d_R_alike_34 : decode m_R_alike.2.1 34 = .ok (.getfield 13, 3) := by decide +kernel
theorem d_R_alike_37 : decode m_R_alike.2.1 37 = .ok (.arraylength, 1) := by decide +kernel
theorem d_R_alike_38 : decode m_R_alike.2.1 38 = .ok (.if_icmp .ge 34, 3) := by decide +kernel
theorem d_R_alike_41 : decode m_R_alike.2.1 41 = .ok (.iload_n 2, 1) := by decide +kernel
theorem d_R_alike_42 : decode m_R_alike.2.1 42 = .ok (.ifCond .eq 30, 3) := by decide +kernel
theorem d_R_alike_45 : decode m_R_alike.2.1 45 = .ok (.aload_n 0, 1) := by decide +kernel
theorem d_R_alike_46 : decode m_R_alike.2.1 46 = .ok (.getfield 13, 3) := by decide +kernel
theorem d_R_alike_49 : decode m_R_alike.2.1 49 = .ok (.iload_n 3, 1) := by decide +kernel
theorem d_R_alike_50 : decode m_R_alike.2.1 50 = .ok (.iaload, 1) := by decide +kernel
theorem d_R_alike_51 : decode m_R_alike.2.1 51 = .ok (.aload_n 1, 1) := by decide +kernel
theorem d_R_alike_52 : decode m_R_alike.2.1 52 = .ok (.getfield 13, 3) := by decide +kernel
theorem d_R_alike_55 : decode m_R_alike.2.1 55 = .ok (.iload_n 3, 1) := by decide +kernel
theorem d_R_alike_56 : decode m_R_alike.2.1 56 = .ok (.iaload, 1) := by decide +kernel
theorem d_R_alike_57 : decode m_R_alike.2.1 57 = .ok (.if_icmp .ne 7, 3) := by decide +kernel
theorem d_R_alike_60 : decode m_R_alike.2.1 60 = .ok (.iconst 1, 1) := by decide +kernel
theorem d_R_alike_61 : decode m_R_alike.2.1 61 = .ok (.goto 4, 3) := by decide +kernel
theorem d_R_alike_64 : decode m_R_alike.2.1 64 = .ok (.iconst 0, 1) := by decide +kernel
theorem d_R_alike_65 : decode m_R_alike.2.1 65 = .ok (.istore_n 2, 1) := by decide +kernel
theorem d_R_alike_66 : decode m_R_alike.2.1 66 = .ok (.iinc 3 1, 3) := by decide +kernel
theorem d_R_alike_69 : decode m_R_alike.2.1 69 = .ok (.goto (-37), 3) := by decide +kernel
theorem d_R_alike_72 : decode m_R_alike.2.1 72 = .ok (.iload_n 2, 1) := by decide +kernel
theorem d_R_alike_73 : decode m_R_alike.2.1 73 = .ok (.ireturn, 1) := by decide +kernel
theorem d_D_state_0 : decode m_D_state.2.1 0 = .ok (.iload_n 0, 1) := by decide +kernel
theorem d_D_state_1 : decode m_D_state.2.1 1 = .ok (.ifCond .ne 11, 3) := by decide +kernel
theorem d_D_state_4 : decode m_D_state.2.1 4 = .ok (.new 84, 3) := by decide +kernel
theorem d_D_state_7 : decode m_D_state.2.1 7 = .ok (.dup, 1) := by decide +kernel
theorem d_D_state_8 : decode m_D_state.2.1 8 = .ok (.invokespecial 86, 3) := by decide +kernel
theorem d_D_state_11 : decode m_D_state.2.1 11 = .ok (.athrow, 1) := by decide +kernel
theorem d_D_state_12 : decode m_D_state.2.1 12 = .ok (.return_, 1) := by decide +kernel
theorem d_D_forget_0 : decode m_D_forget.2.1 0 = .ok (.aload_n 0, 1) := by decide +kernel
theorem d_D_forget_1 : decode m_D_forget.2.1 1 = .ok (.iconst 0, 1) := by decide +kernel
theorem d_D_forget_2 : decode m_D_forget.2.1 2 = .ok (.putfield 95, 3) := by decide +kernel
theorem d_D_forget_5 : decode m_D_forget.2.1 5 = .ok (.aload_n 0, 1) := by decide +kernel
theorem d_D_forget_6 : decode m_D_forget.2.1 6 = .ok (.iconst 0, 1) := by decide +kernel
theorem d_D_forget_7 : decode m_D_forget.2.1 7 = .ok (.putfield 99, 3) := by decide +kernel
theorem d_D_forget_10 : decode m_D_forget.2.1 10 = .ok (.return_, 1) := by decide +kernel
theorem d_D_compile_0 : decode m_D_compile.2.1 0 = .ok (.aload_n 0, 1) := by decide +kernel
theorem d_D_compile_1 : decode m_D_compile.2.1 1 = .ok (.getfield 10, 3) := by decide +kernel
theorem d_D_compile_4 : decode m_D_compile.2.1 4 = .ok (.invokevirtual 219, 3) := by decide +kernel
theorem d_D_compile_7 : decode m_D_compile.2.1 7 = .ok (.ifCond .ne 7, 3) := by decide +kernel
theorem d_D_compile_10 : decode m_D_compile.2.1 10 = .ok (.iconst 1, 1) := by decide +kernel
theorem d_D_compile_11 : decode m_D_compile.2.1 11 = .ok (.goto 4, 3) := by decide +kernel
theorem d_D_compile_14 : decode m_D_compile.2.1 14 = .ok (.iconst 0, 1) := by decide +kernel
theorem d_D_compile_15 : decode m_D_compile.2.1 15 = .ok (.invokestatic 139, 3) := by decide +kernel
theorem d_D_compile_18 : decode m_D_compile.2.1 18 = .ok (.aload_n 0, 1) := by decide +kernel
theorem d_D_compile_19 : decode m_D_compile.2.1 19 = .ok (.iconst 0, 1) := by decide +kernel
theorem d_D_compile_20 : decode m_D_compile.2.1 20 = .ok (.putfield 146, 3) := by decide +kernel
theorem d_D_compile_23 : decode m_D_compile.2.1 23 = .ok (.aload_n 0, 1) := by decide +kernel
theorem d_D_compile_24 : decode m_D_compile.2.1 24 = .ok (.invokevirtual 150, 3) := by decide +kernel
theorem d_D_compile_27 : decode m_D_compile.2.1 27 = .ok (.aload_n 0, 1) := by decide +kernel
theorem d_D_compile_28 : decode m_D_compile.2.1 28 = .ok (.invokevirtual 220, 3) := by decide +kernel
theorem d_D_compile_31 : decode m_D_compile.2.1 31 = .ok (.aload_n 0, 1) := by decide +kernel
theorem d_D_compile_32 : decode m_D_compile.2.1 32 = .ok (.getfield 35, 3) := by decide +kernel
theorem d_D_compile_35 : decode m_D_compile.2.1 35 = .ok (.aload_n 0, 1) := by decide +kernel
theorem d_D_compile_36 : decode m_D_compile.2.1 36 = .ok (.getfield 10, 3) := by decide +kernel
theorem d_D_compile_39 : decode m_D_compile.2.1 39 = .ok (.iconst 0, 1) := by decide +kernel
theorem d_D_compile_40 : decode m_D_compile.2.1 40 = .ok (.invokevirtual 131, 3) := by decide +kernel
theorem d_D_compile_43 : decode m_D_compile.2.1 43 = .ok (.checkcast 123, 3) := by decide +kernel
theorem d_D_compile_46 : decode m_D_compile.2.1 46 = .ok (.getfield 156, 3) := by decide +kernel
theorem d_D_compile_49 : decode m_D_compile.2.1 49 = .ok (.bipush 7, 2) := by decide +kernel
theorem d_D_compile_51 : decode m_D_compile.2.1 51 = .ok (.isub, 1) := by decide +kernel
theorem d_D_compile_52 : decode m_D_compile.2.1 52 = .ok (.baload, 1) := by decide +kernel
theorem d_D_compile_53 : decode m_D_compile.2.1 53 = .ok (.ifCond .eq 14, 3) := by decide +kernel
theorem d_D_compile_56 : decode m_D_compile.2.1 56 = .ok (.aload_n 0, 1) := by decide +kernel
theorem d_D_compile_57 : decode m_D_compile.2.1 57 = .ok (.invokevirtual 223, 3) := by decide +kernel
theorem d_D_compile_60 : decode m_D_compile.2.1 60 = .ok (.ifCond .eq 7, 3) := by decide +kernel
theorem d_D_compile_63 : decode m_D_compile.2.1 63 = .ok (.iconst 1, 1) := by decide +kernel
theorem d_D_compile_64 : decode m_D_compile.2.1 64 = .ok (.goto 4, 3) := by decide +kernel
theorem d_D_compile_67 : decode m_D_compile.2.1 67 = .ok (.iconst 0, 1) := by decide +kernel
theorem d_D_compile_68 : decode m_D_compile.2.1 68 = .ok (.istore_n 1, 1) := by decide +kernel
theorem d_D_compile_69 : decode m_D_compile.2.1 69 = .ok (.iconst 0, 1) := by decide +kernel
theorem d_D_compile_70 : decode m_D_compile.2.1 70 = .ok (.istore_n 2, 1) := by decide +kernel
theorem d_D_compile_71 : decode m_D_compile.2.1 71 = .ok (.iload_n 2, 1) := by decide +kernel
theorem d_D_compile_72 : decode m_D_compile.2.1 72 = .ok (.aload_n 0, 1) := by decide +kernel
theorem d_D_compile_73 : decode m_D_compile.2.1 73 = .ok (.getfield 197, 3) := by decide +kernel
theorem d_D_compile_76 : decode m_D_compile.2.1 76 = .ok (.if_icmp .ge 19, 3) := by decide +kernel
theorem d_D_compile_79 : decode m_D_compile.2.1 79 = .ok (.iload_n 1, 1) := by decide +kernel
theorem d_D_compile_80 : decode m_D_compile.2.1 80 = .ok (.ifCond .eq 15, 3) := by decide +kernel
theorem d_D_compile_83 : decode m_D_compile.2.1 83 = .ok (.aload_n 0, 1) := by decide +kernel
theorem d_D_compile_84 : decode m_D_compile.2.1 84 = .ok (.iload_n 2, 1) := by decide +kernel
theorem d_D_compile_85 : decode m_D_compile.2.1 85 = .ok (.invokevirtual 226, 3) := by decide +kernel
theorem d_D_compile_88 : decode m_D_compile.2.1 88 = .ok (.istore_n 1, 1) := by decide +kernel
theorem d_D_compile_89 : decode m_D_compile.2.1 89 = .ok (.iinc 2 1, 3) := by decide +kernel
theorem d_D_compile_92 : decode m_D_compile.2.1 92 = .ok (.goto (-21), 3) := by decide +kernel
theorem d_D_compile_95 : decode m_D_compile.2.1 95 = .ok (.iload_n 1, 1) := by decide +kernel
theorem d_D_compile_96 : decode m_D_compile.2.1 96 = .ok (.ifCond .ne 11, 3) := by decide +kernel
theorem d_D_compile_99 : decode m_D_compile.2.1 99 = .ok (.new 229, 3) := by decide +kernel
theorem d_D_compile_102 : decode m_D_compile.2.1 102 = .ok (.dup, 1) := by decide +kernel
theorem d_D_compile_103 : decode m_D_compile.2.1 103 = .ok (.invokespecial 231, 3) := by decide +kernel
theorem d_D_compile_106 : decode m_D_compile.2.1 106 = .ok (.athrow, 1) := by decide +kernel
theorem d_D_compile_107 : decode m_D_compile.2.1 107 = .ok (.aload_n 0, 1) := by decide +kernel
theorem d_D_compile_108 : decode m_D_compile.2.1 108 = .ok (.iconst 1, 1) := by decide +kernel
theorem d_D_compile_109 : decode m_D_compile.2.1 109 = .ok (.putfield 146, 3) := by decide +kernel
theorem d_D_compile_112 : decode m_D_compile.2.1 112 = .ok (.aload_n 0, 1) := by decide +kernel
theorem d_D_compile_113 : decode m_D_compile.2.1 113 = .ok (.iconst 0, 1) := by decide +kernel
theorem d_D_compile_114 : decode m_D_compile.2.1 114 = .ok (.putfield 232, 3) := by decide +kernel
theorem d_D_compile_117 : decode m_D_compile.2.1 117 = .ok (.iconst 0, 1) := by decide +kernel
theorem d_D_compile_118 : decode m_D_compile.2.1 118 = .ok (.istore_n 2, 1) := by decide +kernel
theorem d_D_compile_119 : decode m_D_compile.2.1 119 = .ok (.iload_n 2, 1) := by decide +kernel
theorem d_D_compile_120 : decode m_D_compile.2.1 120 = .ok (.aload_n 0, 1) := by decide +kernel
theorem d_D_compile_121 : decode m_D_compile.2.1 121 = .ok (.getfield 197, 3) := by decide +kernel
theorem d_D_compile_124 : decode m_D_compile.2.1 124 = .ok (.if_icmp .ge 32, 3) := by decide +kernel
theorem d_D_compile_127 : decode m_D_compile.2.1 127 = .ok (.aload_n 0, 1) := by decide +kernel
theorem d_D_compile_128 : decode m_D_compile.2.1 128 = .ok (.dup, 1) := by decide +kernel
theorem d_D_compile_129 : decode m_D_compile.2.1 129 = .ok (.getfield 232, 3) := by decide +kernel
theorem d_D_compile_132 : decode m_D_compile.2.1 132 = .ok (.aload_n 0, 1) := by decide +kernel
theorem d_D_compile_133 : decode m_D_compile.2.1 133 = .ok (.getfield 45, 3) := by decide +kernel
theorem d_D_compile_136 : decode m_D_compile.2.1 136 = .ok (.iload_n 2, 1) := by decide +kernel
theorem d_D_compile_137 : decode m_D_compile.2.1 137 = .ok (.invokevirtual 131, 3) := by decide +kernel
theorem d_D_compile_140 : decode m_D_compile.2.1 140 = .ok (.checkcast 171, 3) := by decide +kernel
theorem d_D_compile_143 : decode m_D_compile.2.1 143 = .ok (.invokevirtual 235, 3) := by decide +kernel
theorem d_D_compile_146 : decode m_D_compile.2.1 146 = .ok (.iadd, 1) := by decide +kernel
theorem d_D_compile_147 : decode m_D_compile.2.1 147 = .ok (.putfield 232, 3) := by decide +kernel
theorem d_D_compile_150 : decode m_D_compile.2.1 150 = .ok (.iinc 2 1, 3) := by decide +kernel
theorem d_D_compile_153 : decode m_D_compile.2.1 153 = .ok (.goto (-34), 3) := by decide +kernel
theorem d_D_compile_156 : decode m_D_compile.2.1 156 = .ok (.aload_n 0, 1) := by decide +kernel
theorem d_D_compile_157 : decode m_D_compile.2.1 157 = .ok (.getfield 197, 3) := by decide +kernel
theorem d_D_compile_160 : decode m_D_compile.2.1 160 = .ok (.ireturn, 1) := by decide +kernel
theorem d_D_grow_0 : decode m_D_grow.2.1 0 = .ok (.iconst 0, 1) := by decide +kernel
theorem d_D_grow_1 : decode m_D_grow.2.1 1 = .ok (.istore_n 1, 1) := by decide +kernel
theorem d_D_grow_2 : decode m_D_grow.2.1 2 = .ok (.iload_n 1, 1) := by decide +kernel
theorem d_D_grow_3 : decode m_D_grow.2.1 3 = .ok (.bipush 6, 2) := by decide +kernel
theorem d_D_grow_5 : decode m_D_grow.2.1 5 = .ok (.if_icmp .ge 30, 3) := by decide +kernel
theorem d_D_grow_8 : decode m_D_grow.2.1 8 = .ok (.aload_n 0, 1) := by decide +kernel
theorem d_D_grow_9 : decode m_D_grow.2.1 9 = .ok (.getfield 35, 3) := by decide +kernel
theorem d_D_grow_12 : decode m_D_grow.2.1 12 = .ok (.iload_n 1, 1) := by decide +kernel
theorem d_D_grow_13 : decode m_D_grow.2.1 13 = .ok (.iconst 0, 1) := by decide +kernel
theorem d_D_grow_14 : decode m_D_grow.2.1 14 = .ok (.bastore, 1) := by decide +kernel
theorem d_D_grow_15 : decode m_D_grow.2.1 15 = .ok (.aload_n 0, 1) := by decide +kernel
theorem d_D_grow_16 : decode m_D_grow.2.1 16 = .ok (.getfield 39, 3) := by decide +kernel
theorem d_D_grow_19 : decode m_D_grow.2.1 19 = .ok (.iload_n 1, 1) := by decide +kernel
theorem d_D_grow_20 : decode m_D_grow.2.1 20 = .ok (.iconst 0, 1) := by decide +kernel
theorem d_D_grow_21 : decode m_D_grow.2.1 21 = .ok (.bastore, 1) := by decide +kernel
theorem d_D_grow_22 : decode m_D_grow.2.1 22 = .ok (.aload_n 0, 1) := by decide +kernel
theorem d_D_grow_23 : decode m_D_grow.2.1 23 = .ok (.getfield 42, 3) := by decide +kernel
theorem d_D_grow_26 : decode m_D_grow.2.1 26 = .ok (.iload_n 1, 1) := by decide +kernel
theorem d_D_grow_27 : decode m_D_grow.2.1 27 = .ok (.iconst 0, 1) := by decide +kernel
theorem d_D_grow_28 : decode m_D_grow.2.1 28 = .ok (.iastore, 1) := by decide +kernel
theorem d_D_grow_29 : decode m_D_grow.2.1 29 = .ok (.iinc 1 1, 3) := by decide +kernel
theorem d_D_grow_32 : decode m_D_grow.2.1 32 = .ok (.goto (-30), 3) := by decide +kernel
theorem d_D_grow_35 : decode m_D_grow.2.1 35 = .ok (.iconst 1, 1) := by decide +kernel
theorem d_D_grow_36 : decode m_D_grow.2.1 36 = .ok (.istore_n 1, 1) := by decide +kernel
theorem d_D_grow_37 : decode m_D_grow.2.1 37 = .ok (.iload_n 1, 1) := by decide +kernel
theorem d_D_grow_38 : decode m_D_grow.2.1 38 = .ok (.ifCond .eq 184, 3) := by decide +kernel
theorem d_D_grow_41 : decode m_D_grow.2.1 41 = .ok (.iconst 0, 1) := by decide +kernel
theorem d_D_grow_42 : decode m_D_grow.2.1 42 = .ok (.istore_n 1, 1) := by decide +kernel
theorem d_D_grow_43 : decode m_D_grow.2.1 43 = .ok (.iconst 0, 1) := by decide +kernel
theorem d_D_grow_44 : decode m_D_grow.2.1 44 = .ok (.istore_n 2, 1) := by decide +kernel
theorem d_D_grow_45 : decode m_D_grow.2.1 45 = .ok (.iload_n 2, 1) := by decide +kernel
theorem d_D_grow_46 : decode m_D_grow.2.1 46 = .ok (.aload_n 0, 1) := by decide +kernel
theorem d_D_grow_47 : decode m_D_grow.2.1 47 = .ok (.getfield 10, 3) := by decide +kernel
theorem d_D_grow_50 : decode m_D_grow.2.1 50 = .ok (.invokevirtual 128, 3) := by decide +kernel
theorem d_D_grow_53 : decode m_D_grow.2.1 53 = .ok (.if_icmp .ge 166, 3) := by decide +kernel
theorem d_D_grow_56 : decode m_D_grow.2.1 56 = .ok (.aload_n 0, 1) := by decide +kernel
theorem d_D_grow_57 : decode m_D_grow.2.1 57 = .ok (.getfield 10, 3) := by decide +kernel
theorem d_D_grow_60 : decode m_D_grow.2.1 60 = .ok (.iload_n 2, 1) := by decide +kernel
theorem d_D_grow_61 : decode m_D_grow.2.1 61 = .ok (.invokevirtual 131, 3) := by decide +kernel
theorem d_D_grow_64 : decode m_D_grow.2.1 64 = .ok (.checkcast 123, 3) := by decide +kernel
theorem d_D_grow_67 : decode m_D_grow.2.1 67 = .ok (.astore_n 3, 1) := by decide +kernel
theorem d_D_grow_68 : decode m_D_grow.2.1 68 = .ok (.aload_n 3, 1) := by decide +kernel
theorem d_D_grow_69 : decode m_D_grow.2.1 69 = .ok (.getfield 156, 3) := by decide +kernel
theorem d_D_grow_72 : decode m_D_grow.2.1 72 = .ok (.bipush 7, 2) := by decide +kernel
theorem d_D_grow_74 : decode m_D_grow.2.1 74 = .ok (.isub, 1) := by decide +kernel
theorem d_D_grow_75 : decode m_D_grow.2.1 75 = .ok (.istore 4, 2) := by decide +kernel
theorem d_D_grow_77 : decode m_D_grow.2.1 77 = .ok (.aload_n 0, 1) := by decide +kernel
theorem d_D_grow_78 : decode m_D_grow.2.1 78 = .ok (.aload_n 3, 1) := by decide +kernel
theorem d_D_grow_79 : decode m_D_grow.2.1 79 = .ok (.invokevirtual 159, 3) := by decide +kernel
theorem d_D_grow_82 : decode m_D_grow.2.1 82 = .ok (.ifCond .ne 6, 3) := by decide +kernel
theorem d_D_grow_85 : decode m_D_grow.2.1 85 = .ok (.goto 128, 3) := by decide +kernel
theorem d_D_grow_88 : decode m_D_grow.2.1 88 = .ok (.aload_n 0, 1) := by decide +kernel
theorem d_D_grow_89 : decode m_D_grow.2.1 89 = .ok (.getfield 35, 3) := by decide +kernel
theorem d_D_grow_92 : decode m_D_grow.2.1 92 = .ok (.iload 4, 2) := by decide +kernel
theorem d_D_grow_94 : decode m_D_grow.2.1 94 = .ok (.baload, 1) := by decide +kernel
theorem d_D_grow_95 : decode m_D_grow.2.1 95 = .ok (.ifCond .eq 41, 3) := by decide +kernel
theorem d_D_grow_98 : decode m_D_grow.2.1 98 = .ok (.aload_n 0, 1) := by decide +kernel
theorem d_D_grow_99 : decode m_D_grow.2.1 99 = .ok (.getfield 39, 3) := by decide +kernel
theorem d_D_grow_102 : decode m_D_grow.2.1 102 = .ok (.iload 4, 2) := by decide +kernel
theorem d_D_grow_104 : decode m_D_grow.2.1 104 = .ok (.baload, 1) := by decide +kernel
theorem d_D_grow_105 : decode m_D_grow.2.1 105 = .ok (.ifCond .ne 12, 3) := by decide +kernel
theorem d_D_grow_108 : decode m_D_grow.2.1 108 = .ok (.aload_n 0, 1) := by decide +kernel
theorem d_D_grow_109 : decode m_D_grow.2.1 109 = .ok (.aload_n 3, 1) := by decide +kernel
theorem d_D_grow_110 : decode m_D_grow.2.1 110 = .ok (.iconst 0, 1) := by decide +kernel
theorem d_D_grow_111 : decode m_D_grow.2.1 111 = .ok (.invokevirtual 162, 3) := by decide +kernel
theorem d_D_grow_114 : decode m_D_grow.2.1 114 = .ok (.ifCond .ne 22, 3) := by decide +kernel
theorem d_D_grow_117 : decode m_D_grow.2.1 117 = .ok (.aload_n 0, 1) := by decide +kernel
theorem d_D_grow_118 : decode m_D_grow.2.1 118 = .ok (.aload_n 3, 1) := by decide +kernel
theorem d_D_grow_119 : decode m_D_grow.2.1 119 = .ok (.iconst 0, 1) := by decide +kernel
theorem d_D_grow_120 : decode m_D_grow.2.1 120 = .ok (.invokevirtual 166, 3) := by decide +kernel
theorem d_D_grow_123 : decode m_D_grow.2.1 123 = .ok (.aload_n 0, 1) := by decide +kernel
theorem d_D_grow_124 : decode m_D_grow.2.1 124 = .ok (.getfield 42, 3) := by decide +kernel
theorem d_D_grow_127 : decode m_D_grow.2.1 127 = .ok (.iload 4, 2) := by decide +kernel
theorem d_D_grow_129 : decode m_D_grow.2.1 129 = .ok (.iaload, 1) := by decide +kernel
theorem d_D_grow_130 : decode m_D_grow.2.1 130 = .ok (.iconst (-1), 1) := by decide +kernel
theorem d_D_grow_131 : decode m_D_grow.2.1 131 = .ok (.ixor, 1) := by decide +kernel
theorem d_D_grow_132 : decode m_D_grow.2.1 132 = .ok (.iand, 1) := by decide +kernel
theorem d_D_grow_133 : decode m_D_grow.2.1 133 = .ok (.ifCond .eq 7, 3) := by decide +kernel
theorem d_D_grow_136 : decode m_D_grow.2.1 136 = .ok (.iconst 1, 1) := by decide +kernel
theorem d_D_grow_137 : decode m_D_grow.2.1 137 = .ok (.goto 4, 3) := by decide +kernel
theorem d_D_grow_140 : decode m_D_grow.2.1 140 = .ok (.iconst 0, 1) := by decide +kernel
theorem d_D_grow_141 : decode m_D_grow.2.1 141 = .ok (.istore 5, 2) := by decide +kernel
theorem d_D_grow_143 : decode m_D_grow.2.1 143 = .ok (.aload_n 0, 1) := by decide +kernel
theorem d_D_grow_144 : decode m_D_grow.2.1 144 = .ok (.getfield 35, 3) := by decide +kernel
theorem d_D_grow_147 : decode m_D_grow.2.1 147 = .ok (.iload 4, 2) := by decide +kernel
theorem d_D_grow_149 : decode m_D_grow.2.1 149 = .ok (.iconst 1, 1) := by decide +kernel
theorem d_D_grow_150 : decode m_D_grow.2.1 150 = .ok (.bastore, 1) := by decide +kernel
theorem d_D_grow_151 : decode m_D_grow.2.1 151 = .ok (.aload_n 0, 1) := by decide +kernel
theorem d_D_grow_152 : decode m_D_grow.2.1 152 = .ok (.getfield 39, 3) := by decide +kernel
theorem d_D_grow_155 : decode m_D_grow.2.1 155 = .ok (.iload 4, 2) := by decide +kernel
theorem d_D_grow_157 : decode m_D_grow.2.1 157 = .ok (.aload_n 0, 1) := by decide +kernel
theorem d_D_grow_158 : decode m_D_grow.2.1 158 = .ok (.getfield 39, 3) := by decide +kernel
theorem d_D_grow_161 : decode m_D_grow.2.1 161 = .ok (.iload 4, 2) := by decide +kernel
theorem d_D_grow_163 : decode m_D_grow.2.1 163 = .ok (.baload, 1) := by decide +kernel
theorem d_D_grow_164 : decode m_D_grow.2.1 164 = .ok (.ifCond .ne 12, 3) := by decide +kernel
theorem d_D_grow_167 : decode m_D_grow.2.1 167 = .ok (.aload_n 0, 1) := by decide +kernel
theorem d_D_grow_168 : decode m_D_grow.2.1 168 = .ok (.aload_n 3, 1) := by decide +kernel
theorem d_D_grow_169 : decode m_D_grow.2.1 169 = .ok (.iconst 0, 1) := by decide +kernel
theorem d_D_grow_170 : decode m_D_grow.2.1 170 = .ok (.invokevirtual 162, 3) := by decide +kernel
theorem d_D_grow_173 : decode m_D_grow.2.1 173 = .ok (.ifCond .eq 7, 3) := by decide +kernel
theorem d_D_grow_176 : decode m_D_grow.2.1 176 = .ok (.iconst 1, 1) := by decide +kernel
theorem d_D_grow_177 : decode m_D_grow.2.1 177 = .ok (.goto 4, 3) := by decide +kernel
theorem d_D_grow_180 : decode m_D_grow.2.1 180 = .ok (.iconst 0, 1) := by decide +kernel
theorem d_D_grow_181 : decode m_D_grow.2.1 181 = .ok (.bastore, 1) := by decide +kernel
theorem d_D_grow_182 : decode m_D_grow.2.1 182 = .ok (.aload_n 0, 1) := by decide +kernel
theorem d_D_grow_183 : decode m_D_grow.2.1 183 = .ok (.getfield 42, 3) := by decide +kernel
theorem d_D_grow_186 : decode m_D_grow.2.1 186 = .ok (.iload 4, 2) := by decide +kernel
theorem d_D_grow_188 : decode m_D_grow.2.1 188 = .ok (.dup2, 1) := by decide +kernel
theorem d_D_grow_189 : decode m_D_grow.2.1 189 = .ok (.iaload, 1) := by decide +kernel
theorem d_D_grow_190 : decode m_D_grow.2.1 190 = .ok (.aload_n 0, 1) := by decide +kernel
theorem d_D_grow_191 : decode m_D_grow.2.1 191 = .ok (.aload_n 3, 1) := by decide +kernel
theorem d_D_grow_192 : decode m_D_grow.2.1 192 = .ok (.iconst 0, 1) := by decide +kernel
theorem d_D_grow_193 : decode m_D_grow.2.1 193 = .ok (.invokevirtual 166, 3) := by decide +kernel
theorem d_D_grow_196 : decode m_D_grow.2.1 196 = .ok (.ior, 1) := by decide +kernel
theorem d_D_grow_197 : decode m_D_grow.2.1 197 = .ok (.iastore, 1) := by decide +kernel
theorem d_D_grow_198 : decode m_D_grow.2.1 198 = .ok (.iload_n 1, 1) := by decide +kernel
theorem d_D_grow_199 : decode m_D_grow.2.1 199 = .ok (.ifCond .ne 8, 3) := by decide +kernel
theorem d_D_grow_202 : decode m_D_grow.2.1 202 = .ok (.iload 5, 2) := by decide +kernel
theorem d_D_grow_204 : decode m_D_grow.2.1 204 = .ok (.ifCond .eq 7, 3) := by decide +kernel
theorem d_D_grow_207 : decode m_D_grow.2.1 207 = .ok (.iconst 1, 1) := by decide +kernel
theorem d_D_grow_208 : decode m_D_grow.2.1 208 = .ok (.goto 4, 3) := by decide +kernel
theorem d_D_grow_211 : decode m_D_grow.2.1 211 = .ok (.iconst 0, 1) := by decide +kernel
theorem d_D_grow_212 : decode m_D_grow.2.1 212 = .ok (.istore_n 1, 1) := by decide +kernel
theorem d_D_grow_213 : decode m_D_grow.2.1 213 = .ok (.iinc 2 1, 3) := by decide +kernel
theorem d_D_grow_216 : decode m_D_grow.2.1 216 = .ok (.goto (-171), 3) := by decide +kernel
theorem d_D_grow_219 : decode m_D_grow.2.1 219 = .ok (.goto (-182), 3) := by decide +kernel
theorem d_D_grow_222 : decode m_D_grow.2.1 222 = .ok (.return_, 1) := by decide +kernel
