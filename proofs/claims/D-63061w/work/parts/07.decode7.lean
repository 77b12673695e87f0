/-! decode rows (printed by gen/names.py) -/
theorem d_P_note_0 : decode m_P_note.2.1 0 = .ok (.aload_n 0, 1) := by decide +kernel
theorem d_P_note_1 : decode m_P_note.2.1 1 = .ok (.getfield 149, 3) := by decide +kernel
theorem d_P_note_4 : decode m_P_note.2.1 4 = .ok (.istore_n 3, 1) := by decide +kernel
theorem d_P_note_5 : decode m_P_note.2.1 5 = .ok (.aload_n 0, 1) := by decide +kernel
theorem d_P_note_6 : decode m_P_note.2.1 6 = .ok (.getfield 152, 3) := by decide +kernel
theorem d_P_note_9 : decode m_P_note.2.1 9 = .ok (.istore 4, 2) := by decide +kernel
theorem d_P_note_11 : decode m_P_note.2.1 11 = .ok (.iload 4, 2) := by decide +kernel
theorem d_P_note_13 : decode m_P_note.2.1 13 = .ok (.aload_n 0, 1) := by decide +kernel
theorem d_P_note_14 : decode m_P_note.2.1 14 = .ok (.getfield 135, 3) := by decide +kernel
theorem d_P_note_17 : decode m_P_note.2.1 17 = .ok (.if_icmp .ge 25, 3) := by decide +kernel
theorem d_P_note_20 : decode m_P_note.2.1 20 = .ok (.aload_n 0, 1) := by decide +kernel
theorem d_P_note_21 : decode m_P_note.2.1 21 = .ok (.getfield 45, 3) := by decide +kernel
theorem d_P_note_24 : decode m_P_note.2.1 24 = .ok (.iload_n 3, 1) := by decide +kernel
theorem d_P_note_25 : decode m_P_note.2.1 25 = .ok (.aload_n 0, 1) := by decide +kernel
theorem d_P_note_26 : decode m_P_note.2.1 26 = .ok (.getfield 42, 3) := by decide +kernel
theorem d_P_note_29 : decode m_P_note.2.1 29 = .ok (.iload 4, 2) := by decide +kernel
theorem d_P_note_31 : decode m_P_note.2.1 31 = .ok (.iaload, 1) := by decide +kernel
theorem d_P_note_32 : decode m_P_note.2.1 32 = .ok (.iastore, 1) := by decide +kernel
theorem d_P_note_33 : decode m_P_note.2.1 33 = .ok (.iinc 3 1, 3) := by decide +kernel
theorem d_P_note_36 : decode m_P_note.2.1 36 = .ok (.iinc 4 1, 3) := by decide +kernel
theorem d_P_note_39 : decode m_P_note.2.1 39 = .ok (.goto (-28), 3) := by decide +kernel
theorem d_P_note_42 : decode m_P_note.2.1 42 = .ok (.aload_n 0, 1) := by decide +kernel
theorem d_P_note_43 : decode m_P_note.2.1 43 = .ok (.iload_n 3, 1) := by decide +kernel
theorem d_P_note_44 : decode m_P_note.2.1 44 = .ok (.iconst 1, 1) := by decide +kernel
theorem d_P_note_45 : decode m_P_note.2.1 45 = .ok (.invokevirtual 138, 3) := by decide +kernel
theorem d_P_note_48 : decode m_P_note.2.1 48 = .ok (.istore 4, 2) := by decide +kernel
theorem d_P_note_50 : decode m_P_note.2.1 50 = .ok (.iload 4, 2) := by decide +kernel
theorem d_P_note_52 : decode m_P_note.2.1 52 = .ok (.ifCond .lt 15, 3) := by decide +kernel
theorem d_P_note_55 : decode m_P_note.2.1 55 = .ok (.iload 4, 2) := by decide +kernel
theorem d_P_note_57 : decode m_P_note.2.1 57 = .ok (.aload_n 0, 1) := by decide +kernel
theorem d_P_note_58 : decode m_P_note.2.1 58 = .ok (.getfield 149, 3) := by decide +kernel
theorem d_P_note_61 : decode m_P_note.2.1 61 = .ok (.iload_n 2, 1) := by decide +kernel
theorem d_P_note_62 : decode m_P_note.2.1 62 = .ok (.iadd, 1) := by decide +kernel
theorem d_P_note_63 : decode m_P_note.2.1 63 = .ok (.if_icmp .ge 4, 3) := by decide +kernel
theorem d_P_note_66 : decode m_P_note.2.1 66 = .ok (.return_, 1) := by decide +kernel
theorem d_P_note_67 : decode m_P_note.2.1 67 = .ok (.aload_n 0, 1) := by decide +kernel
theorem d_P_note_68 : decode m_P_note.2.1 68 = .ok (.getfield 73, 3) := by decide +kernel
theorem d_P_note_71 : decode m_P_note.2.1 71 = .ok (.bipush 40, 2) := by decide +kernel
theorem d_P_note_73 : decode m_P_note.2.1 73 = .ok (.if_icmp .ge 81, 3) := by decide +kernel
theorem d_P_note_76 : decode m_P_note.2.1 76 = .ok (.iconst 0, 1) := by decide +kernel
theorem d_P_note_77 : decode m_P_note.2.1 77 = .ok (.istore 5, 2) := by decide +kernel
theorem d_P_note_79 : decode m_P_note.2.1 79 = .ok (.iload 5, 2) := by decide +kernel
theorem d_P_note_81 : decode m_P_note.2.1 81 = .ok (.bipush 7, 2) := by decide +kernel
theorem d_P_note_83 : decode m_P_note.2.1 83 = .ok (.if_icmp .ge 41, 3) := by decide +kernel
theorem d_P_note_86 : decode m_P_note.2.1 86 = .ok (.aload_n 0, 1) := by decide +kernel
theorem d_P_note_87 : decode m_P_note.2.1 87 = .ok (.getfield 57, 3) := by decide +kernel
theorem d_P_note_90 : decode m_P_note.2.1 90 = .ok (.bipush 7, 2) := by decide +kernel
theorem d_P_note_92 : decode m_P_note.2.1 92 = .ok (.aload_n 0, 1) := by decide +kernel
theorem d_P_note_93 : decode m_P_note.2.1 93 = .ok (.getfield 73, 3) := by decide +kernel
theorem d_P_note_96 : decode m_P_note.2.1 96 = .ok (.imul, 1) := by decide +kernel
theorem d_P_note_97 : decode m_P_note.2.1 97 = .ok (.iload 5, 2) := by decide +kernel
theorem d_P_note_99 : decode m_P_note.2.1 99 = .ok (.iadd, 1) := by decide +kernel
theorem d_P_note_100 : decode m_P_note.2.1 100 = .ok (.iload 5, 2) := by decide +kernel
theorem d_P_note_102 : decode m_P_note.2.1 102 = .ok (.iload_n 1, 1) := by decide +kernel
theorem d_P_note_103 : decode m_P_note.2.1 103 = .ok (.if_icmp .ge 13, 3) := by decide +kernel
theorem d_P_note_106 : decode m_P_note.2.1 106 = .ok (.aload_n 0, 1) := by decide +kernel
theorem d_P_note_107 : decode m_P_note.2.1 107 = .ok (.getfield 63, 3) := by decide +kernel
theorem d_P_note_110 : decode m_P_note.2.1 110 = .ok (.iload 5, 2) := by decide +kernel
theorem d_P_note_112 : decode m_P_note.2.1 112 = .ok (.iaload, 1) := by decide +kernel
theorem d_P_note_113 : decode m_P_note.2.1 113 = .ok (.goto 4, 3) := by decide +kernel
theorem d_P_note_116 : decode m_P_note.2.1 116 = .ok (.iconst (-1), 1) := by decide +kernel
theorem d_P_note_117 : decode m_P_note.2.1 117 = .ok (.iastore, 1) := by decide +kernel
theorem d_P_note_118 : decode m_P_note.2.1 118 = .ok (.iinc 5 1, 3) := by decide +kernel
theorem d_P_note_121 : decode m_P_note.2.1 121 = .ok (.goto (-42), 3) := by decide +kernel
theorem d_P_note_124 : decode m_P_note.2.1 124 = .ok (.aload_n 0, 1) := by decide +kernel
theorem d_P_note_125 : decode m_P_note.2.1 125 = .ok (.getfield 60, 3) := by decide +kernel
theorem d_P_note_128 : decode m_P_note.2.1 128 = .ok (.aload_n 0, 1) := by decide +kernel
theorem d_P_note_129 : decode m_P_note.2.1 129 = .ok (.getfield 73, 3) := by decide +kernel
theorem d_P_note_132 : decode m_P_note.2.1 132 = .ok (.iload 4, 2) := by decide +kernel
theorem d_P_note_134 : decode m_P_note.2.1 134 = .ok (.ifCond .ge 12, 3) := by decide +kernel
theorem d_P_note_137 : decode m_P_note.2.1 137 = .ok (.iload_n 3, 1) := by decide +kernel
theorem d_P_note_138 : decode m_P_note.2.1 138 = .ok (.aload_n 0, 1) := by decide +kernel
theorem d_P_note_139 : decode m_P_note.2.1 139 = .ok (.getfield 149, 3) := by decide +kernel
theorem d_P_note_142 : decode m_P_note.2.1 142 = .ok (.isub, 1) := by decide +kernel
theorem d_P_note_143 : decode m_P_note.2.1 143 = .ok (.goto 10, 3) := by decide +kernel
theorem d_P_note_146 : decode m_P_note.2.1 146 = .ok (.iload 4, 2) := by decide +kernel
theorem d_P_note_148 : decode m_P_note.2.1 148 = .ok (.aload_n 0, 1) := by decide +kernel
theorem d_P_note_149 : decode m_P_note.2.1 149 = .ok (.getfield 149, 3) := by decide +kernel
theorem d_P_note_152 : decode m_P_note.2.1 152 = .ok (.isub, 1) := by decide +kernel
theorem d_P_note_153 : decode m_P_note.2.1 153 = .ok (.iastore, 1) := by decide +kernel
theorem d_P_note_154 : decode m_P_note.2.1 154 = .ok (.aload_n 0, 1) := by decide +kernel
theorem d_P_note_155 : decode m_P_note.2.1 155 = .ok (.dup, 1) := by decide +kernel
theorem d_P_note_156 : decode m_P_note.2.1 156 = .ok (.getfield 73, 3) := by decide +kernel
theorem d_P_note_159 : decode m_P_note.2.1 159 = .ok (.iconst 1, 1) := by decide +kernel
theorem d_P_note_160 : decode m_P_note.2.1 160 = .ok (.iadd, 1) := by decide +kernel
theorem d_P_note_161 : decode m_P_note.2.1 161 = .ok (.putfield 73, 3) := by decide +kernel
theorem d_P_note_164 : decode m_P_note.2.1 164 = .ok (.return_, 1) := by decide +kernel
theorem d_P_step_0 : decode m_P_step.2.1 0 = .ok (.aload_n 0, 1) := by decide +kernel
theorem d_P_step_1 : decode m_P_step.2.1 1 = .ok (.iconst 0, 1) := by decide +kernel
theorem d_P_step_2 : decode m_P_step.2.1 2 = .ok (.putfield 66, 3) := by decide +kernel
theorem d_P_step_5 : decode m_P_step.2.1 5 = .ok (.iload_n 1, 1) := by decide +kernel
theorem d_P_step_6 : decode m_P_step.2.1 6 = .ok (.ifCond .lt 21, 3) := by decide +kernel
theorem d_P_step_9 : decode m_P_step.2.1 9 = .ok (.iload_n 1, 1) := by decide +kernel
theorem d_P_step_10 : decode m_P_step.2.1 10 = .ok (.aload_n 0, 1) := by decide +kernel
theorem d_P_step_11 : decode m_P_step.2.1 11 = .ok (.getfield 73, 3) := by decide +kernel
theorem d_P_step_14 : decode m_P_step.2.1 14 = .ok (.if_icmp .ge 13, 3) := by decide +kernel
theorem d_P_step_17 : decode m_P_step.2.1 17 = .ok (.iload_n 2, 1) := by decide +kernel
theorem d_P_step_18 : decode m_P_step.2.1 18 = .ok (.ifCond .lt 9, 3) := by decide +kernel
theorem d_P_step_21 : decode m_P_step.2.1 21 = .ok (.iload_n 2, 1) := by decide +kernel
theorem d_P_step_22 : decode m_P_step.2.1 22 = .ok (.bipush 6, 2) := by decide +kernel
theorem d_P_step_24 : decode m_P_step.2.1 24 = .ok (.if_icmp .le 7, 3) := by decide +kernel
theorem d_P_step_27 : decode m_P_step.2.1 27 = .ok (.iconst (-1), 1) := by decide +kernel
theorem d_P_step_28 : decode m_P_step.2.1 28 = .ok (.goto 14, 3) := by decide +kernel
theorem d_P_step_31 : decode m_P_step.2.1 31 = .ok (.aload_n 0, 1) := by decide +kernel
theorem d_P_step_32 : decode m_P_step.2.1 32 = .ok (.getfield 57, 3) := by decide +kernel
theorem d_P_step_35 : decode m_P_step.2.1 35 = .ok (.bipush 7, 2) := by decide +kernel
theorem d_P_step_37 : decode m_P_step.2.1 37 = .ok (.iload_n 1, 1) := by decide +kernel
theorem d_P_step_38 : decode m_P_step.2.1 38 = .ok (.imul, 1) := by decide +kernel
theorem d_P_step_39 : decode m_P_step.2.1 39 = .ok (.iload_n 2, 1) := by decide +kernel
theorem d_P_step_40 : decode m_P_step.2.1 40 = .ok (.iadd, 1) := by decide +kernel
theorem d_P_step_41 : decode m_P_step.2.1 41 = .ok (.iaload, 1) := by decide +kernel
theorem d_P_step_42 : decode m_P_step.2.1 42 = .ok (.ireturn, 1) := by decide +kernel
theorem d_P_price_0 : decode m_P_price.2.1 0 = .ok (.aload_n 0, 1) := by decide +kernel
theorem d_P_price_1 : decode m_P_price.2.1 1 = .ok (.iconst 0, 1) := by decide +kernel
theorem d_P_price_2 : decode m_P_price.2.1 2 = .ok (.putfield 66, 3) := by decide +kernel
theorem d_P_price_5 : decode m_P_price.2.1 5 = .ok (.aload_n 0, 1) := by decide +kernel
theorem d_P_price_6 : decode m_P_price.2.1 6 = .ok (.getfield 76, 3) := by decide +kernel
theorem d_P_price_9 : decode m_P_price.2.1 9 = .ok (.ireturn, 1) := by decide +kernel
theorem d_P_reach_0 : decode m_P_reach.2.1 0 = .ok (.aload_n 0, 1) := by decide +kernel
theorem d_P_reach_1 : decode m_P_reach.2.1 1 = .ok (.iconst 0, 1) := by decide +kernel
theorem d_P_reach_2 : decode m_P_reach.2.1 2 = .ok (.putfield 66, 3) := by decide +kernel
theorem d_P_reach_5 : decode m_P_reach.2.1 5 = .ok (.iload_n 1, 1) := by decide +kernel
theorem d_P_reach_6 : decode m_P_reach.2.1 6 = .ok (.ifCond .lt 11, 3) := by decide +kernel
theorem d_P_reach_9 : decode m_P_reach.2.1 9 = .ok (.iload_n 1, 1) := by decide +kernel
theorem d_P_reach_10 : decode m_P_reach.2.1 10 = .ok (.aload_n 0, 1) := by decide +kernel
theorem d_P_reach_11 : decode m_P_reach.2.1 11 = .ok (.getfield 73, 3) := by decide +kernel
theorem d_P_reach_14 : decode m_P_reach.2.1 14 = .ok (.if_icmp .lt 11, 3) := by decide +kernel
theorem d_P_reach_17 : decode m_P_reach.2.1 17 = .ok (.aload_n 0, 1) := by decide +kernel
theorem d_P_reach_18 : decode m_P_reach.2.1 18 = .ok (.iconst 1, 1) := by decide +kernel
theorem d_P_reach_19 : decode m_P_reach.2.1 19 = .ok (.invokevirtual 86, 3) := by decide +kernel
theorem d_P_reach_22 : decode m_P_reach.2.1 22 = .ok (.goto 9, 3) := by decide +kernel
theorem d_P_reach_25 : decode m_P_reach.2.1 25 = .ok (.aload_n 0, 1) := by decide +kernel
theorem d_P_reach_26 : decode m_P_reach.2.1 26 = .ok (.getfield 60, 3) := by decide +kernel
theorem d_P_reach_29 : decode m_P_reach.2.1 29 = .ok (.iload_n 1, 1) := by decide +kernel
theorem d_P_reach_30 : decode m_P_reach.2.1 30 = .ok (.iaload, 1) := by decide +kernel
theorem d_P_reach_31 : decode m_P_reach.2.1 31 = .ok (.ireturn, 1) := by decide +kernel
theorem d_P_apply_0 : decode m_P_apply.2.1 0 = .ok (.aload_n 0, 1) := by decide +kernel
theorem d_P_apply_1 : decode m_P_apply.2.1 1 = .ok (.iconst 0, 1) := by decide +kernel
theorem d_P_apply_2 : decode m_P_apply.2.1 2 = .ok (.putfield 66, 3) := by decide +kernel
theorem d_P_apply_5 : decode m_P_apply.2.1 5 = .ok (.iload_n 1, 1) := by decide +kernel
theorem d_P_apply_6 : decode m_P_apply.2.1 6 = .ok (.ifCond .lt 11, 3) := by decide +kernel
theorem d_P_apply_9 : decode m_P_apply.2.1 9 = .ok (.iload_n 1, 1) := by decide +kernel
theorem d_P_apply_10 : decode m_P_apply.2.1 10 = .ok (.aload_n 0, 1) := by decide +kernel
theorem d_P_apply_11 : decode m_P_apply.2.1 11 = .ok (.getfield 73, 3) := by decide +kernel
theorem d_P_apply_14 : decode m_P_apply.2.1 14 = .ok (.if_icmp .lt 9, 3) := by decide +kernel
theorem d_P_apply_17 : decode m_P_apply.2.1 17 = .ok (.aload_n 0, 1) := by decide +kernel
theorem d_P_apply_18 : decode m_P_apply.2.1 18 = .ok (.iconst 1, 1) := by decide +kernel
theorem d_P_apply_19 : decode m_P_apply.2.1 19 = .ok (.invokevirtual 86, 3) := by decide +kernel
theorem d_P_apply_22 : decode m_P_apply.2.1 22 = .ok (.ireturn, 1) := by decide +kernel
theorem d_P_apply_23 : decode m_P_apply.2.1 23 = .ok (.iconst 0, 1) := by decide +kernel
theorem d_P_apply_24 : decode m_P_apply.2.1 24 = .ok (.istore_n 2, 1) := by decide +kernel
theorem d_P_apply_25 : decode m_P_apply.2.1 25 = .ok (.iload_n 2, 1) := by decide +kernel
theorem d_P_apply_26 : decode m_P_apply.2.1 26 = .ok (.bipush 7, 2) := by decide +kernel
theorem d_P_apply_28 : decode m_P_apply.2.1 28 = .ok (.if_icmp .ge 40, 3) := by decide +kernel
theorem d_P_apply_31 : decode m_P_apply.2.1 31 = .ok (.aload_n 0, 1) := by decide +kernel
theorem d_P_apply_32 : decode m_P_apply.2.1 32 = .ok (.getfield 57, 3) := by decide +kernel
theorem d_P_apply_35 : decode m_P_apply.2.1 35 = .ok (.bipush 7, 2) := by decide +kernel
theorem d_P_apply_37 : decode m_P_apply.2.1 37 = .ok (.iload_n 1, 1) := by decide +kernel
theorem d_P_apply_38 : decode m_P_apply.2.1 38 = .ok (.imul, 1) := by decide +kernel
theorem d_P_apply_39 : decode m_P_apply.2.1 39 = .ok (.iload_n 2, 1) := by decide +kernel
theorem d_P_apply_40 : decode m_P_apply.2.1 40 = .ok (.iadd, 1) := by decide +kernel
theorem d_P_apply_41 : decode m_P_apply.2.1 41 = .ok (.iaload, 1) := by decide +kernel
theorem d_P_apply_42 : decode m_P_apply.2.1 42 = .ok (.ifCond .lt 26, 3) := by decide +kernel
theorem d_P_apply_45 : decode m_P_apply.2.1 45 = .ok (.aload_n 0, 1) := by decide +kernel
theorem d_P_apply_46 : decode m_P_apply.2.1 46 = .ok (.getfield 63, 3) := by decide +kernel
theorem d_P_apply_49 : decode m_P_apply.2.1 49 = .ok (.iload_n 2, 1) := by decide +kernel
theorem d_P_apply_50 : decode m_P_apply.2.1 50 = .ok (.aload_n 0, 1) := by decide +kernel
theorem d_P_apply_51 : decode m_P_apply.2.1 51 = .ok (.getfield 57, 3) := by decide +kernel
theorem d_P_apply_54 : decode m_P_apply.2.1 54 = .ok (.bipush 7, 2) := by decide +kernel
theorem d_P_apply_56 : decode m_P_apply.2.1 56 = .ok (.iload_n 1, 1) := by decide +kernel
theorem d_P_apply_57 : decode m_P_apply.2.1 57 = .ok (.imul, 1) := by decide +kernel
theorem d_P_apply_58 : decode m_P_apply.2.1 58 = .ok (.iload_n 2, 1) := by decide +kernel
theorem d_P_apply_59 : decode m_P_apply.2.1 59 = .ok (.iadd, 1) := by decide +kernel
theorem d_P_apply_60 : decode m_P_apply.2.1 60 = .ok (.iaload, 1) := by decide +kernel
theorem d_P_apply_61 : decode m_P_apply.2.1 61 = .ok (.iastore, 1) := by decide +kernel
theorem d_P_apply_62 : decode m_P_apply.2.1 62 = .ok (.iinc 2 1, 3) := by decide +kernel
theorem d_P_apply_65 : decode m_P_apply.2.1 65 = .ok (.goto (-40), 3) := by decide +kernel
theorem d_P_apply_68 : decode m_P_apply.2.1 68 = .ok (.aload_n 0, 1) := by decide +kernel
theorem d_P_apply_69 : decode m_P_apply.2.1 69 = .ok (.iload_n 2, 1) := by decide +kernel
theorem d_P_apply_70 : decode m_P_apply.2.1 70 = .ok (.invokevirtual 155, 3) := by decide +kernel
theorem d_P_apply_73 : decode m_P_apply.2.1 73 = .ok (.istore_n 3, 1) := by decide +kernel
theorem d_P_apply_74 : decode m_P_apply.2.1 74 = .ok (.iload_n 3, 1) := by decide +kernel
theorem d_P_apply_75 : decode m_P_apply.2.1 75 = .ok (.ifCond .lt 22, 3) := by decide +kernel
theorem d_P_apply_78 : decode m_P_apply.2.1 78 = .ok (.aload_n 0, 1) := by decide +kernel
theorem d_P_apply_79 : decode m_P_apply.2.1 79 = .ok (.getfield 149, 3) := by decide +kernel
theorem d_P_apply_82 : decode m_P_apply.2.1 82 = .ok (.aload_n 0, 1) := by decide +kernel
theorem d_P_apply_83 : decode m_P_apply.2.1 83 = .ok (.getfield 135, 3) := by decide +kernel
theorem d_P_apply_86 : decode m_P_apply.2.1 86 = .ok (.iadd, 1) := by decide +kernel
theorem d_P_apply_87 : decode m_P_apply.2.1 87 = .ok (.aload_n 0, 1) := by decide +kernel
theorem d_P_apply_88 : decode m_P_apply.2.1 88 = .ok (.getfield 152, 3) := by decide +kernel
theorem d_P_apply_91 : decode m_P_apply.2.1 91 = .ok (.isub, 1) := by decide +kernel
theorem d_P_apply_92 : decode m_P_apply.2.1 92 = .ok (.bipush 16, 2) := by decide +kernel
theorem d_P_apply_94 : decode m_P_apply.2.1 94 = .ok (.if_icmp .le 9, 3) := by decide +kernel
theorem d_P_apply_97 : decode m_P_apply.2.1 97 = .ok (.aload_n 0, 1) := by decide +kernel
theorem d_P_apply_98 : decode m_P_apply.2.1 98 = .ok (.iconst 2, 1) := by decide +kernel
theorem d_P_apply_99 : decode m_P_apply.2.1 99 = .ok (.invokevirtual 86, 3) := by decide +kernel
theorem d_P_apply_102 : decode m_P_apply.2.1 102 = .ok (.ireturn, 1) := by decide +kernel
theorem d_P_apply_103 : decode m_P_apply.2.1 103 = .ok (.aload_n 0, 1) := by decide +kernel
theorem d_P_apply_104 : decode m_P_apply.2.1 104 = .ok (.getfield 152, 3) := by decide +kernel
theorem d_P_apply_107 : decode m_P_apply.2.1 107 = .ok (.istore 4, 2) := by decide +kernel
theorem d_P_apply_109 : decode m_P_apply.2.1 109 = .ok (.iload 4, 2) := by decide +kernel
theorem d_P_apply_111 : decode m_P_apply.2.1 111 = .ok (.aload_n 0, 1) := by decide +kernel
theorem d_P_apply_112 : decode m_P_apply.2.1 112 = .ok (.getfield 135, 3) := by decide +kernel
theorem d_P_apply_115 : decode m_P_apply.2.1 115 = .ok (.if_icmp .ge 35, 3) := by decide +kernel
theorem d_P_apply_118 : decode m_P_apply.2.1 118 = .ok (.aload_n 0, 1) := by decide +kernel
theorem d_P_apply_119 : decode m_P_apply.2.1 119 = .ok (.getfield 45, 3) := by decide +kernel
theorem d_P_apply_122 : decode m_P_apply.2.1 122 = .ok (.aload_n 0, 1) := by decide +kernel
theorem d_P_apply_123 : decode m_P_apply.2.1 123 = .ok (.getfield 149, 3) := by decide +kernel
theorem d_P_apply_126 : decode m_P_apply.2.1 126 = .ok (.aload_n 0, 1) := by decide +kernel
theorem d_P_apply_127 : decode m_P_apply.2.1 127 = .ok (.getfield 42, 3) := by decide +kernel
theorem d_P_apply_130 : decode m_P_apply.2.1 130 = .ok (.iload 4, 2) := by decide +kernel
theorem d_P_apply_132 : decode m_P_apply.2.1 132 = .ok (.iaload, 1) := by decide +kernel
theorem d_P_apply_133 : decode m_P_apply.2.1 133 = .ok (.iastore, 1) := by decide +kernel
theorem d_P_apply_134 : decode m_P_apply.2.1 134 = .ok (.aload_n 0, 1) := by decide +kernel
theorem d_P_apply_135 : decode m_P_apply.2.1 135 = .ok (.dup, 1) := by decide +kernel
theorem d_P_apply_136 : decode m_P_apply.2.1 136 = .ok (.getfield 149, 3) := by decide +kernel
theorem d_P_apply_139 : decode m_P_apply.2.1 139 = .ok (.iconst 1, 1) := by decide +kernel
theorem d_P_apply_140 : decode m_P_apply.2.1 140 = .ok (.iadd, 1) := by decide +kernel
theorem d_P_apply_141 : decode m_P_apply.2.1 141 = .ok (.putfield 149, 3) := by decide +kernel
theorem d_P_apply_144 : decode m_P_apply.2.1 144 = .ok (.iinc 4 1, 3) := by decide +kernel
theorem d_P_apply_147 : decode m_P_apply.2.1 147 = .ok (.goto (-38), 3) := by decide +kernel
theorem d_P_apply_150 : decode m_P_apply.2.1 150 = .ok (.aload_n 0, 1) := by decide +kernel
theorem d_P_apply_151 : decode m_P_apply.2.1 151 = .ok (.aload_n 0, 1) := by decide +kernel
theorem d_P_apply_152 : decode m_P_apply.2.1 152 = .ok (.getfield 149, 3) := by decide +kernel
theorem d_P_apply_155 : decode m_P_apply.2.1 155 = .ok (.putfield 135, 3) := by decide +kernel
theorem d_P_apply_158 : decode m_P_apply.2.1 158 = .ok (.iconst 0, 1) := by decide +kernel
theorem d_P_apply_159 : decode m_P_apply.2.1 159 = .ok (.istore 4, 2) := by decide +kernel
theorem d_P_apply_161 : decode m_P_apply.2.1 161 = .ok (.iload 4, 2) := by decide +kernel
theorem d_P_apply_163 : decode m_P_apply.2.1 163 = .ok (.aload_n 0, 1) := by decide +kernel
theorem d_P_apply_164 : decode m_P_apply.2.1 164 = .ok (.getfield 149, 3) := by decide +kernel
theorem d_P_apply_167 : decode m_P_apply.2.1 167 = .ok (.if_icmp .ge 23, 3) := by decide +kernel
theorem d_P_apply_170 : decode m_P_apply.2.1 170 = .ok (.aload_n 0, 1) := by decide +kernel
theorem d_P_apply_171 : decode m_P_apply.2.1 171 = .ok (.getfield 42, 3) := by decide +kernel
theorem d_P_apply_174 : decode m_P_apply.2.1 174 = .ok (.iload 4, 2) := by decide +kernel
theorem d_P_apply_176 : decode m_P_apply.2.1 176 = .ok (.aload_n 0, 1) := by decide +kernel
theorem d_P_apply_177 : decode m_P_apply.2.1 177 = .ok (.getfield 45, 3) := by decide +kernel
theorem d_P_apply_180 : decode m_P_apply.2.1 180 = .ok (.iload 4, 2) := by decide +kernel
theorem d_P_apply_182 : decode m_P_apply.2.1 182 = .ok (.iaload, 1) := by decide +kernel
theorem d_P_apply_183 : decode m_P_apply.2.1 183 = .ok (.iastore, 1) := by decide +kernel
theorem d_P_apply_184 : decode m_P_apply.2.1 184 = .ok (.iinc 4 1, 3) := by decide +kernel
theorem d_P_apply_187 : decode m_P_apply.2.1 187 = .ok (.goto (-26), 3) := by decide +kernel
theorem d_P_apply_190 : decode m_P_apply.2.1 190 = .ok (.aload_n 0, 1) := by decide +kernel
theorem d_P_apply_191 : decode m_P_apply.2.1 191 = .ok (.invokevirtual 96, 3) := by decide +kernel
theorem d_P_apply_194 : decode m_P_apply.2.1 194 = .ok (.aload_n 0, 1) := by decide +kernel
theorem d_P_apply_195 : decode m_P_apply.2.1 195 = .ok (.getfield 135, 3) := by decide +kernel
theorem d_P_apply_198 : decode m_P_apply.2.1 198 = .ok (.ireturn, 1) := by decide +kernel
theorem d_P_letter_0 : decode m_P_letter.2.1 0 = .ok (.aload_n 0, 1) := by decide +kernel
theorem d_P_letter_1 : decode m_P_letter.2.1 1 = .ok (.iconst 0, 1) := by decide +kernel
theorem d_P_letter_2 : decode m_P_letter.2.1 2 = .ok (.putfield 66, 3) := by decide +kernel
theorem d_P_letter_5 : decode m_P_letter.2.1 5 = .ok (.iload_n 1, 1) := by decide +kernel
theorem d_P_letter_6 : decode m_P_letter.2.1 6 = .ok (.ifCond .lt 20, 3) := by decide +kernel
theorem d_P_letter_9 : decode m_P_letter.2.1 9 = .ok (.iload_n 1, 1) := by decide +kernel
theorem d_P_letter_10 : decode m_P_letter.2.1 10 = .ok (.aload_n 0, 1) := by decide +kernel
theorem d_P_letter_11 : decode m_P_letter.2.1 11 = .ok (.getfield 135, 3) := by decide +kernel
theorem d_P_letter_14 : decode m_P_letter.2.1 14 = .ok (.if_icmp .ge 12, 3) := by decide +kernel
theorem d_P_letter_17 : decode m_P_letter.2.1 17 = .ok (.aload_n 0, 1) := by decide +kernel
theorem d_P_letter_18 : decode m_P_letter.2.1 18 = .ok (.getfield 42, 3) := by decide +kernel
theorem d_P_letter_21 : decode m_P_letter.2.1 21 = .ok (.iload_n 1, 1) := by decide +kernel
theorem d_P_letter_22 : decode m_P_letter.2.1 22 = .ok (.iaload, 1) := by decide +kernel
theorem d_P_letter_23 : decode m_P_letter.2.1 23 = .ok (.goto 4, 3) := by decide +kernel
theorem d_P_letter_26 : decode m_P_letter.2.1 26 = .ok (.iconst (-1), 1) := by decide +kernel
theorem d_P_letter_27 : decode m_P_letter.2.1 27 = .ok (.ireturn, 1) := by decide +kernel
theorem d_P_count_0 : decode m_P_count.2.1 0 = .ok (.aload_n 0, 1) := by decide +kernel
theorem d_P_count_1 : decode m_P_count.2.1 1 = .ok (.iconst 0, 1) := by decide +kernel
theorem d_P_count_2 : decode m_P_count.2.1 2 = .ok (.putfield 66, 3) := by decide +kernel
theorem d_P_count_5 : decode m_P_count.2.1 5 = .ok (.iload_n 1, 1) := by decide +kernel
theorem d_P_count_6 : decode m_P_count.2.1 6 = .ok (.ifCond .ne 8, 3) := by decide +kernel
theorem d_P_count_9 : decode m_P_count.2.1 9 = .ok (.aload_n 0, 1) := by decide +kernel
theorem d_P_count_10 : decode m_P_count.2.1 10 = .ok (.getfield 90, 3) := by decide +kernel
theorem d_P_count_13 : decode m_P_count.2.1 13 = .ok (.ireturn, 1) := by decide +kernel
theorem d_P_count_14 : decode m_P_count.2.1 14 = .ok (.iload_n 1, 1) := by decide +kernel
theorem d_P_count_15 : decode m_P_count.2.1 15 = .ok (.iconst 1, 1) := by decide +kernel
theorem d_P_count_16 : decode m_P_count.2.1 16 = .ok (.if_icmp .ne 8, 3) := by decide +kernel
theorem d_P_count_19 : decode m_P_count.2.1 19 = .ok (.aload_n 0, 1) := by decide +kernel
theorem d_P_count_20 : decode m_P_count.2.1 20 = .ok (.getfield 93, 3) := by decide +kernel
theorem d_P_count_23 : decode m_P_count.2.1 23 = .ok (.ireturn, 1) := by decide +kernel
theorem d_P_count_24 : decode m_P_count.2.1 24 = .ok (.iload_n 1, 1) := by decide +kernel
theorem d_P_count_25 : decode m_P_count.2.1 25 = .ok (.iconst 2, 1) := by decide +kernel
theorem d_P_count_26 : decode m_P_count.2.1 26 = .ok (.if_icmp .eq 5, 3) := by decide +kernel
theorem d_P_count_29 : decode m_P_count.2.1 29 = .ok (.iconst (-1), 1) := by decide +kernel
theorem d_P_count_30 : decode m_P_count.2.1 30 = .ok (.ireturn, 1) := by decide +kernel
theorem d_P_count_31 : decode m_P_count.2.1 31 = .ok (.iconst 0, 1) := by decide +kernel
theorem d_P_count_32 : decode m_P_count.2.1 32 = .ok (.istore_n 2, 1) := by decide +kernel
theorem d_P_count_33 : decode m_P_count.2.1 33 = .ok (.iconst 0, 1) := by decide +kernel
theorem d_P_count_34 : decode m_P_count.2.1 34 = .ok (.istore_n 3, 1) := by decide +kernel
theorem d_P_count_35 : decode m_P_count.2.1 35 = .ok (.iload_n 3, 1) := by decide +kernel
theorem d_P_count_36 : decode m_P_count.2.1 36 = .ok (.bipush 55, 2) := by decide +kernel
theorem d_P_count_38 : decode m_P_count.2.1 38 = .ok (.aload_n 0, 1) := by decide +kernel
theorem d_P_count_39 : decode m_P_count.2.1 39 = .ok (.getfield 93, 3) := by decide +kernel
theorem d_P_count_42 : decode m_P_count.2.1 42 = .ok (.imul, 1) := by decide +kernel
theorem d_P_count_43 : decode m_P_count.2.1 43 = .ok (.if_icmp .ge 39, 3) := by decide +kernel
theorem d_P_count_46 : decode m_P_count.2.1 46 = .ok (.iconst 0, 1) := by decide +kernel
theorem d_P_count_47 : decode m_P_count.2.1 47 = .ok (.istore 4, 2) := by decide +kernel
theorem d_P_count_49 : decode m_P_count.2.1 49 = .ok (.iload 4, 2) := by decide +kernel
theorem d_P_count_51 : decode m_P_count.2.1 51 = .ok (.bipush 7, 2) := by decide +kernel
theorem d_P_count_53 : decode m_P_count.2.1 53 = .ok (.if_icmp .ge 23, 3) := by decide +kernel
theorem d_P_count_56 : decode m_P_count.2.1 56 = .ok (.iload_n 2, 1) := by decide +kernel
theorem d_P_count_57 : decode m_P_count.2.1 57 = .ok (.aload_n 0, 1) := by decide +kernel
theorem d_P_count_58 : decode m_P_count.2.1 58 = .ok (.getfield 36, 3) := by decide +kernel
theorem d_P_count_61 : decode m_P_count.2.1 61 = .ok (.iload_n 3, 1) := by decide +kernel
theorem d_P_count_62 : decode m_P_count.2.1 62 = .ok (.iaload, 1) := by decide +kernel
theorem d_P_count_63 : decode m_P_count.2.1 63 = .ok (.iload 4, 2) := by decide +kernel
theorem d_P_count_65 : decode m_P_count.2.1 65 = .ok (.ishr, 1) := by decide +kernel
theorem d_P_count_66 : decode m_P_count.2.1 66 = .ok (.iconst 1, 1) := by decide +kernel
theorem d_P_count_67 : decode m_P_count.2.1 67 = .ok (.iand, 1) := by decide +kernel
theorem d_P_count_68 : decode m_P_count.2.1 68 = .ok (.iadd, 1) := by decide +kernel
theorem d_P_count_69 : decode m_P_count.2.1 69 = .ok (.istore_n 2, 1) := by decide +kernel
theorem d_P_count_70 : decode m_P_count.2.1 70 = .ok (.iinc 4 1, 3) := by decide +kernel
theorem d_P_count_73 : decode m_P_count.2.1 73 = .ok (.goto (-24), 3) := by decide +kernel
theorem d_P_count_76 : decode m_P_count.2.1 76 = .ok (.iinc 3 1, 3) := by decide +kernel
theorem d_P_count_79 : decode m_P_count.2.1 79 = .ok (.goto (-44), 3) := by decide +kernel
theorem d_P_count_82 : decode m_P_count.2.1 82 = .ok (.iload_n 2, 1) := by decide +kernel
theorem d_P_count_83 : decode m_P_count.2.1 83 = .ok (.ireturn, 1) := by decide +kernel
theorem d_AL_init_0 : decode m_AL_init.2.1 0 = .ok (.aload_n 0, 1) := by decide +kernel
theorem d_AL_init_1 : decode m_AL_init.2.1 1 = .ok (.invokespecial 1, 3) := by decide +kernel
theorem d_AL_init_4 : decode m_AL_init.2.1 4 = .ok (.aload_n 0, 1) := by decide +kernel
theorem d_AL_init_5 : decode m_AL_init.2.1 5 = .ok (.getstatic 39, 3) := by decide +kernel
theorem d_AL_init_8 : decode m_AL_init.2.1 8 = .ok (.putfield 9, 3) := by decide +kernel
theorem d_AL_init_11 : decode m_AL_init.2.1 11 = .ok (.return_, 1) := by decide +kernel
theorem d_ABL_init_0 : decode m_ABL_init.2.1 0 = .ok (.aload_n 0, 1) := by decide +kernel
theorem d_ABL_init_1 : decode m_ABL_init.2.1 1 = .ok (.invokespecial 1, 3) := by decide +kernel
theorem d_ABL_init_4 : decode m_ABL_init.2.1 4 = .ok (.aload_n 0, 1) := by decide +kernel
theorem d_ABL_init_5 : decode m_ABL_init.2.1 5 = .ok (.iconst 0, 1) := by decide +kernel
theorem d_ABL_init_6 : decode m_ABL_init.2.1 6 = .ok (.putfield 7, 3) := by decide +kernel
theorem d_ABL_init_9 : decode m_ABL_init.2.1 9 = .ok (.return_, 1) := by decide +kernel
theorem d_ABC_init_0 : decode m_ABC_init.2.1 0 = .ok (.aload_n 0, 1) := by decide +kernel
theorem d_ABC_init_1 : decode m_ABC_init.2.1 1 = .ok (.invokespecial 1, 3) := by decide +kernel
theorem d_ABC_init_4 : decode m_ABC_init.2.1 4 = .ok (.return_, 1) := by decide +kernel
theorem d_SB_init_0 : decode m_SB_init.2.1 0 = .ok (.aload_n 0, 1) := by decide +kernel
theorem d_SB_init_1 : decode m_SB_init.2.1 1 = .ok (.bipush 16, 2) := by decide +kernel
theorem d_SB_init_3 : decode m_SB_init.2.1 3 = .ok (.invokespecial 1, 3) := by decide +kernel
theorem d_SB_init_6 : decode m_SB_init.2.1 6 = .ok (.return_, 1) := by decide +kernel
theorem d_ASB_init_0 : decode m_ASB_init.2.1 0 = .ok (.aload_n 0, 1) := by decide +kernel
theorem d_ASB_init_1 : decode m_ASB_init.2.1 1 = .ok (.invokespecial 3, 3) := by decide +kernel
theorem d_ASB_init_4 : decode m_ASB_init.2.1 4 = .ok (.getstatic 18, 3) := by decide +kernel
theorem d_ASB_init_7 : decode m_ASB_init.2.1 7 = .ok (.ifCond .eq 18, 3) := by decide +kernel
theorem d_ASB_init_10 : decode m_ASB_init.2.1 10 = .ok (.aload_n 0, 1) := by decide +kernel
theorem d_ASB_init_11 : decode m_ASB_init.2.1 11 = .ok (.iload_n 1, 1) := by decide +kernel
theorem d_ASB_init_12 : decode m_ASB_init.2.1 12 = .ok (.newarray .byte, 2) := by decide +kernel
theorem d_ASB_init_14 : decode m_ASB_init.2.1 14 = .ok (.putfield 15, 3) := by decide +kernel
theorem d_ASB_init_17 : decode m_ASB_init.2.1 17 = .ok (.aload_n 0, 1) := by decide +kernel
theorem d_ASB_init_18 : decode m_ASB_init.2.1 18 = .ok (.iconst 0, 1) := by decide +kernel
theorem d_ASB_init_19 : decode m_ASB_init.2.1 19 = .ok (.putfield 22, 3) := by decide +kernel
theorem d_ASB_init_22 : decode m_ASB_init.2.1 22 = .ok (.goto 16, 3) := by decide +kernel
theorem d_ASB_init_25 : decode m_ASB_init.2.1 25 = .ok (.aload_n 0, 1) := by decide +kernel
theorem d_ASB_init_26 : decode m_ASB_init.2.1 26 = .ok (.iload_n 1, 1) := by decide +kernel
theorem d_ASB_init_27 : decode m_ASB_init.2.1 27 = .ok (.invokestatic 26, 3) := by decide +kernel
theorem d_ASB_init_30 : decode m_ASB_init.2.1 30 = .ok (.putfield 15, 3) := by decide +kernel
theorem d_ASB_init_33 : decode m_ASB_init.2.1 33 = .ok (.aload_n 0, 1) := by decide +kernel
theorem d_ASB_init_34 : decode m_ASB_init.2.1 34 = .ok (.iconst 1, 1) := by decide +kernel
theorem d_ASB_init_35 : decode m_ASB_init.2.1 35 = .ok (.putfield 22, 3) := by decide +kernel
theorem d_ASB_init_38 : decode m_ASB_init.2.1 38 = .ok (.return_, 1) := by decide +kernel
theorem d_AL_size_0 : decode m_AL_size.2.1 0 = .ok (.aload_n 0, 1) := by decide +kernel
theorem d_AL_size_1 : decode m_AL_size.2.1 1 = .ok (.getfield 48, 3) := by decide +kernel
theorem d_AL_size_4 : decode m_AL_size.2.1 4 = .ok (.ireturn, 1) := by decide +kernel
theorem d_AL_get_0 : decode m_AL_get.2.1 0 = .ok (.iload_n 1, 1) := by decide +kernel
theorem d_AL_get_1 : decode m_AL_get.2.1 1 = .ok (.aload_n 0, 1) := by decide +kernel
theorem d_AL_get_2 : decode m_AL_get.2.1 2 = .ok (.getfield 48, 3) := by decide +kernel
theorem d_AL_get_5 : decode m_AL_get.2.1 5 = .ok (.invokestatic 118, 3) := by decide +kernel
theorem d_AL_get_8 : decode m_AL_get.2.1 8 = .ok (.pop, 1) := by decide +kernel
theorem d_AL_get_9 : decode m_AL_get.2.1 9 = .ok (.aload_n 0, 1) := by decide +kernel
theorem d_AL_get_10 : decode m_AL_get.2.1 10 = .ok (.iload_n 1, 1) := by decide +kernel
theorem d_AL_get_11 : decode m_AL_get.2.1 11 = .ok (.invokevirtual 123, 3) := by decide +kernel
theorem d_AL_get_14 : decode m_AL_get.2.1 14 = .ok (.areturn, 1) := by decide +kernel
theorem d_AL_elementData_0 : decode m_AL_elementData.2.1 0 = .ok (.aload_n 0, 1) := by decide +kernel
theorem d_AL_elementData_1 : decode m_AL_elementData.2.1 1 = .ok (.getfield 9, 3) := by decide +kernel
theorem d_AL_elementData_4 : decode m_AL_elementData.2.1 4 = .ok (.iload_n 1, 1) := by decide +kernel
theorem d_AL_elementData_5 : decode m_AL_elementData.2.1 5 = .ok (.aaload, 1) := by decide +kernel
theorem d_AL_elementData_6 : decode m_AL_elementData.2.1 6 = .ok (.areturn, 1) := by decide +kernel
theorem d_AL_add_0 : decode m_AL_add.2.1 0 = .ok (.aload_n 0, 1) := by decide +kernel
theorem d_AL_add_1 : decode m_AL_add.2.1 1 = .ok (.dup, 1) := by decide +kernel
theorem d_AL_add_2 : decode m_AL_add.2.1 2 = .ok (.getfield 63, 3) := by decide +kernel
theorem d_AL_add_5 : decode m_AL_add.2.1 5 = .ok (.iconst 1, 1) := by decide +kernel
theorem d_AL_add_6 : decode m_AL_add.2.1 6 = .ok (.iadd, 1) := by decide +kernel
theorem d_AL_add_7 : decode m_AL_add.2.1 7 = .ok (.putfield 63, 3) := by decide +kernel
theorem d_AL_add_10 : decode m_AL_add.2.1 10 = .ok (.aload_n 0, 1) := by decide +kernel
theorem d_AL_add_11 : decode m_AL_add.2.1 11 = .ok (.aload_n 1, 1) := by decide +kernel
theorem d_AL_add_12 : decode m_AL_add.2.1 12 = .ok (.aload_n 0, 1) := by decide +kernel
theorem d_AL_add_13 : decode m_AL_add.2.1 13 = .ok (.getfield 9, 3) := by decide +kernel
theorem d_AL_add_16 : decode m_AL_add.2.1 16 = .ok (.aload_n 0, 1) := by decide +kernel
theorem d_AL_add_17 : decode m_AL_add.2.1 17 = .ok (.getfield 48, 3) := by decide +kernel
theorem d_AL_add_20 : decode m_AL_add.2.1 20 = .ok (.invokevirtual 131, 3) := by decide +kernel
theorem d_AL_add_23 : decode m_AL_add.2.1 23 = .ok (.iconst 1, 1) := by decide +kernel
theorem d_AL_add_24 : decode m_AL_add.2.1 24 = .ok (.ireturn, 1) := by decide +kernel
theorem d_AL_add2_0 : decode m_AL_add2.2.1 0 = .ok (.iload_n 3, 1) := by decide +kernel
theorem d_AL_add2_1 : decode m_AL_add2.2.1 1 = .ok (.aload_n 2, 1) := by decide +kernel
theorem d_AL_add2_2 : decode m_AL_add2.2.1 2 = .ok (.arraylength, 1) := by decide +kernel
theorem d_AL_add2_3 : decode m_AL_add2.2.1 3 = .ok (.if_icmp .ne 8, 3) := by decide +kernel
theorem d_AL_add2_6 : decode m_AL_add2.2.1 6 = .ok (.aload_n 0, 1) := by decide +kernel
theorem d_AL_add2_7 : decode m_AL_add2.2.1 7 = .ok (.invokevirtual 129, 3) := by decide +kernel
theorem d_AL_add2_10 : decode m_AL_add2.2.1 10 = .ok (.astore_n 2, 1) := by decide +kernel
theorem d_AL_add2_11 : decode m_AL_add2.2.1 11 = .ok (.aload_n 2, 1) := by decide +kernel
theorem d_AL_add2_12 : decode m_AL_add2.2.1 12 = .ok (.iload_n 3, 1) := by decide +kernel
theorem d_AL_add2_13 : decode m_AL_add2.2.1 13 = .ok (.aload_n 1, 1) := by decide +kernel
theorem d_AL_add2_14 : decode m_AL_add2.2.1 14 = .ok (.aastore, 1) := by decide +kernel
theorem d_AL_add2_15 : decode m_AL_add2.2.1 15 = .ok (.aload_n 0, 1) := by decide +kernel
theorem d_AL_add2_16 : decode m_AL_add2.2.1 16 = .ok (.iload_n 3, 1) := by decide +kernel
theorem d_AL_add2_17 : decode m_AL_add2.2.1 17 = .ok (.iconst 1, 1) := by decide +kernel
theorem d_AL_add2_18 : decode m_AL_add2.2.1 18 = .ok (.iadd, 1) := by decide +kernel
theorem d_AL_add2_19 : decode m_AL_add2.2.1 19 = .ok (.putfield 48, 3) := by decide +kernel
theorem d_AL_add2_22 : decode m_AL_add2.2.1 22 = .ok (.return_, 1) := by decide +kernel
theorem d_AL_grow_0 : decode m_AL_grow.2.1 0 = .ok (.aload_n 0, 1) := by decide +kernel
theorem d_AL_grow_1 : decode m_AL_grow.2.1 1 = .ok (.aload_n 0, 1) := by decide +kernel
theorem d_AL_grow_2 : decode m_AL_grow.2.1 2 = .ok (.getfield 48, 3) := by decide +kernel
theorem d_AL_grow_5 : decode m_AL_grow.2.1 5 = .ok (.iconst 1, 1) := by decide +kernel
theorem d_AL_grow_6 : decode m_AL_grow.2.1 6 = .ok (.iadd, 1) := by decide +kernel
theorem d_AL_grow_7 : decode m_AL_grow.2.1 7 = .ok (.invokevirtual 69, 3) := by decide +kernel
theorem d_AL_grow_10 : decode m_AL_grow.2.1 10 = .ok (.areturn, 1) := by decide +kernel
theorem d_AL_grow2_0 : decode m_AL_grow2.2.1 0 = .ok (.aload_n 0, 1) := by decide +kernel
theorem d_AL_grow2_1 : decode m_AL_grow2.2.1 1 = .ok (.getfield 9, 3) := by decide +kernel
theorem d_AL_grow2_4 : decode m_AL_grow2.2.1 4 = .ok (.arraylength, 1) := by decide +kernel
theorem d_AL_grow2_5 : decode m_AL_grow2.2.1 5 = .ok (.istore_n 2, 1) := by decide +kernel
theorem d_AL_grow2_6 : decode m_AL_grow2.2.1 6 = .ok (.iload_n 2, 1) := by decide +kernel
theorem d_AL_grow2_7 : decode m_AL_grow2.2.1 7 = .ok (.ifCond .gt 13, 3) := by decide +kernel
theorem d_AL_grow2_10 : decode m_AL_grow2.2.1 10 = .ok (.aload_n 0, 1) := by decide +kernel
theorem d_AL_grow2_11 : decode m_AL_grow2.2.1 11 = .ok (.getfield 9, 3) := by decide +kernel
theorem d_AL_grow2_14 : decode m_AL_grow2.2.1 14 = .ok (.getstatic 39, 3) := by decide +kernel
theorem d_AL_grow2_17 : decode m_AL_grow2.2.1 17 = .ok (.if_acmp .eq 28, 3) := by decide +kernel
theorem d_AL_grow2_20 : decode m_AL_grow2.2.1 20 = .ok (.iload_n 2, 1) := by decide +kernel
theorem d_AL_grow2_21 : decode m_AL_grow2.2.1 21 = .ok (.iload_n 1, 1) := by decide +kernel
theorem d_AL_grow2_22 : decode m_AL_grow2.2.1 22 = .ok (.iload_n 2, 1) := by decide +kernel
theorem d_AL_grow2_23 : decode m_AL_grow2.2.1 23 = .ok (.isub, 1) := by decide +kernel
theorem d_AL_grow2_24 : decode m_AL_grow2.2.1 24 = .ok (.iload_n 2, 1) := by decide +kernel
theorem d_AL_grow2_25 : decode m_AL_grow2.2.1 25 = .ok (.iconst 1, 1) := by decide +kernel
theorem d_AL_grow2_26 : decode m_AL_grow2.2.1 26 = .ok (.ishr, 1) := by decide +kernel
theorem d_AL_grow2_27 : decode m_AL_grow2.2.1 27 = .ok (.invokestatic 73, 3) := by decide +kernel
theorem d_AL_grow2_30 : decode m_AL_grow2.2.1 30 = .ok (.istore_n 3, 1) := by decide +kernel
theorem d_AL_grow2_31 : decode m_AL_grow2.2.1 31 = .ok (.aload_n 0, 1) := by decide +kernel
theorem d_AL_grow2_32 : decode m_AL_grow2.2.1 32 = .ok (.aload_n 0, 1) := by decide +kernel
theorem d_AL_grow2_33 : decode m_AL_grow2.2.1 33 = .ok (.getfield 9, 3) := by decide +kernel
theorem d_AL_grow2_36 : decode m_AL_grow2.2.1 36 = .ok (.iload_n 3, 1) := by decide +kernel
theorem d_AL_grow2_37 : decode m_AL_grow2.2.1 37 = .ok (.invokestatic 66, 3) := by decide +kernel
theorem d_AL_grow2_40 : decode m_AL_grow2.2.1 40 = .ok (.dup_x1, 1) := by decide +kernel
theorem d_AL_grow2_41 : decode m_AL_grow2.2.1 41 = .ok (.putfield 9, 3) := by decide +kernel
theorem d_AL_grow2_44 : decode m_AL_grow2.2.1 44 = .ok (.areturn, 1) := by decide +kernel
theorem d_AL_grow2_45 : decode m_AL_grow2.2.1 45 = .ok (.aload_n 0, 1) := by decide +kernel
theorem d_AL_grow2_46 : decode m_AL_grow2.2.1 46 = .ok (.bipush 10, 2) := by decide +kernel
theorem d_AL_grow2_48 : decode m_AL_grow2.2.1 48 = .ok (.iload_n 1, 1) := by decide +kernel
theorem d_AL_grow2_49 : decode m_AL_grow2.2.1 49 = .ok (.invokestatic 79, 3) := by decide +kernel
theorem d_AL_grow2_52 : decode m_AL_grow2.2.1 52 = .ok (.anewarray 7, 3) := by decide +kernel
theorem d_AL_grow2_55 : decode m_AL_grow2.2.1 55 = .ok (.dup_x1, 1) := by decide +kernel
theorem d_AL_grow2_56 : decode m_AL_grow2.2.1 56 = .ok (.putfield 9, 3) := by decide +kernel
theorem d_AL_grow2_59 : decode m_AL_grow2.2.1 59 = .ok (.areturn, 1) := by decide +kernel
theorem d_AL_isEmpty_0 : decode m_AL_isEmpty.2.1 0 = .ok (.aload_n 0, 1) := by decide +kernel
theorem d_AL_isEmpty_1 : decode m_AL_isEmpty.2.1 1 = .ok (.getfield 48, 3) := by decide +kernel
theorem d_AL_isEmpty_4 : decode m_AL_isEmpty.2.1 4 = .ok (.ifCond .ne 7, 3) := by decide +kernel
theorem d_AL_isEmpty_7 : decode m_AL_isEmpty.2.1 7 = .ok (.iconst 1, 1) := by decide +kernel
theorem d_AL_isEmpty_8 : decode m_AL_isEmpty.2.1 8 = .ok (.goto 4, 3) := by decide +kernel
theorem d_AL_isEmpty_11 : decode m_AL_isEmpty.2.1 11 = .ok (.iconst 0, 1) := by decide +kernel
theorem d_AL_isEmpty_12 : decode m_AL_isEmpty.2.1 12 = .ok (.ireturn, 1) := by decide +kernel
theorem d_AL_clear_0 : decode m_AL_clear.2.1 0 = .ok (.aload_n 0, 1) := by decide +kernel
theorem d_AL_clear_1 : decode m_AL_clear.2.1 1 = .ok (.dup, 1) := by decide +kernel
theorem d_AL_clear_2 : decode m_AL_clear.2.1 2 = .ok (.getfield 63, 3) := by decide +kernel
theorem d_AL_clear_5 : decode m_AL_clear.2.1 5 = .ok (.iconst 1, 1) := by decide +kernel
theorem d_AL_clear_6 : decode m_AL_clear.2.1 6 = .ok (.iadd, 1) := by decide +kernel
theorem d_AL_clear_7 : decode m_AL_clear.2.1 7 = .ok (.putfield 63, 3) := by decide +kernel
theorem d_AL_clear_10 : decode m_AL_clear.2.1 10 = .ok (.aload_n 0, 1) := by decide +kernel
theorem d_AL_clear_11 : decode m_AL_clear.2.1 11 = .ok (.getfield 9, 3) := by decide +kernel
theorem d_AL_clear_14 : decode m_AL_clear.2.1 14 = .ok (.astore_n 1, 1) := by decide +kernel
theorem d_AL_clear_15 : decode m_AL_clear.2.1 15 = .ok (.aload_n 0, 1) := by decide +kernel
theorem d_AL_clear_16 : decode m_AL_clear.2.1 16 = .ok (.getfield 48, 3) := by decide +kernel
theorem d_AL_clear_19 : decode m_AL_clear.2.1 19 = .ok (.istore_n 2, 1) := by decide +kernel
theorem d_AL_clear_20 : decode m_AL_clear.2.1 20 = .ok (.aload_n 0, 1) := by decide +kernel
theorem d_AL_clear_21 : decode m_AL_clear.2.1 21 = .ok (.iconst 0, 1) := by decide +kernel
theorem d_AL_clear_22 : decode m_AL_clear.2.1 22 = .ok (.dup_x1, 1) := by decide +kernel
theorem d_AL_clear_23 : decode m_AL_clear.2.1 23 = .ok (.putfield 48, 3) := by decide +kernel
theorem d_AL_clear_26 : decode m_AL_clear.2.1 26 = .ok (.istore_n 3, 1) := by decide +kernel
theorem d_AL_clear_27 : decode m_AL_clear.2.1 27 = .ok (.iload_n 3, 1) := by decide +kernel
theorem d_AL_clear_28 : decode m_AL_clear.2.1 28 = .ok (.iload_n 2, 1) := by decide +kernel
theorem d_AL_clear_29 : decode m_AL_clear.2.1 29 = .ok (.if_icmp .ge 13, 3) := by decide +kernel
theorem d_AL_clear_32 : decode m_AL_clear.2.1 32 = .ok (.aload_n 1, 1) := by decide +kernel
theorem d_AL_clear_33 : decode m_AL_clear.2.1 33 = .ok (.iload_n 3, 1) := by decide +kernel
theorem d_AL_clear_34 : decode m_AL_clear.2.1 34 = .ok (.aconst_null, 1) := by decide +kernel
theorem d_AL_clear_35 : decode m_AL_clear.2.1 35 = .ok (.aastore, 1) := by decide +kernel
theorem d_AL_clear_36 : decode m_AL_clear.2.1 36 = .ok (.iinc 3 1, 3) := by decide +kernel
theorem d_AL_clear_39 : decode m_AL_clear.2.1 39 = .ok (.goto (-12), 3) := by decide +kernel
theorem d_AL_clear_42 : decode m_AL_clear.2.1 42 = .ok (.return_, 1) := by decide +kernel
theorem d_Objs_checkIndex_0 : decode m_Objs_checkIndex.2.1 0 = .ok (.iload_n 0, 1) := by decide +kernel
theorem d_Objs_checkIndex_1 : decode m_Objs_checkIndex.2.1 1 = .ok (.iload_n 1, 1) := by decide +kernel
theorem d_Objs_checkIndex_2 : decode m_Objs_checkIndex.2.1 2 = .ok (.aconst_null, 1) := by decide +kernel
theorem d_Objs_checkIndex_3 : decode m_Objs_checkIndex.2.1 3 = .ok (.invokestatic 105, 3) := by decide +kernel
theorem d_Objs_checkIndex_6 : decode m_Objs_checkIndex.2.1 6 = .ok (.ireturn, 1) := by decide +kernel
theorem d_Pre_checkIndex_0 : decode m_Pre_checkIndex.2.1 0 = .ok (.iload_n 0, 1) := by decide +kernel
theorem d_Pre_checkIndex_1 : decode m_Pre_checkIndex.2.1 1 = .ok (.ifCond .lt 8, 3) := by decide +kernel
theorem d_Pre_checkIndex_4 : decode m_Pre_checkIndex.2.1 4 = .ok (.iload_n 0, 1) := by decide +kernel
theorem d_Pre_checkIndex_5 : decode m_Pre_checkIndex.2.1 5 = .ok (.iload_n 1, 1) := by decide +kernel
theorem d_Pre_checkIndex_6 : decode m_Pre_checkIndex.2.1 6 = .ok (.if_icmp .lt 10, 3) := by decide +kernel
theorem d_Pre_checkIndex_9 : decode m_Pre_checkIndex.2.1 9 = .ok (.aload_n 2, 1) := by decide +kernel
theorem d_Pre_checkIndex_10 : decode m_Pre_checkIndex.2.1 10 = .ok (.iload_n 0, 1) := by decide +kernel
theorem d_Pre_checkIndex_11 : decode m_Pre_checkIndex.2.1 11 = .ok (.iload_n 1, 1) := by decide +kernel
theorem d_Pre_checkIndex_12 : decode m_Pre_checkIndex.2.1 12 = .ok (.invokestatic 95, 3) := by decide +kernel
theorem d_Pre_checkIndex_15 : decode m_Pre_checkIndex.2.1 15 = .ok (.athrow, 1) := by decide +kernel
theorem d_Pre_checkIndex_16 : decode m_Pre_checkIndex.2.1 16 = .ok (.iload_n 0, 1) := by decide +kernel
theorem d_Pre_checkIndex_17 : decode m_Pre_checkIndex.2.1 17 = .ok (.ireturn, 1) := by decide +kernel
theorem d_Arr_copyOf2_0 : decode m_Arr_copyOf2.2.1 0 = .ok (.aload_n 0, 1) := by decide +kernel
theorem d_Arr_copyOf2_1 : decode m_Arr_copyOf2.2.1 1 = .ok (.iload_n 1, 1) := by decide +kernel
theorem d_Arr_copyOf2_2 : decode m_Arr_copyOf2.2.1 2 = .ok (.aload_n 0, 1) := by decide +kernel
theorem d_Arr_copyOf2_3 : decode m_Arr_copyOf2.2.1 3 = .ok (.invokevirtual 86, 3) := by decide +kernel
theorem d_Arr_copyOf2_6 : decode m_Arr_copyOf2.2.1 6 = .ok (.invokestatic 300, 3) := by decide +kernel
theorem d_Arr_copyOf2_9 : decode m_Arr_copyOf2.2.1 9 = .ok (.areturn, 1) := by decide +kernel
theorem d_Arr_copyOf3_0 : decode m_Arr_copyOf3.2.1 0 = .ok (.aload_n 2, 1) := by decide +kernel
theorem d_Arr_copyOf3_1 : decode m_Arr_copyOf3.2.1 1 = .ok (.ldc 110, 2) := by decide +kernel
theorem d_Arr_copyOf3_3 : decode m_Arr_copyOf3.2.1 3 = .ok (.if_acmp .ne 10, 3) := by decide +kernel
theorem d_Arr_copyOf3_6 : decode m_Arr_copyOf3.2.1 6 = .ok (.iload_n 1, 1) := by decide +kernel
theorem d_Arr_copyOf3_7 : decode m_Arr_copyOf3.2.1 7 = .ok (.anewarray 2, 3) := by decide +kernel
theorem d_Arr_copyOf3_10 : decode m_Arr_copyOf3.2.1 10 = .ok (.goto 14, 3) := by decide +kernel
theorem d_Arr_copyOf3_13 : decode m_Arr_copyOf3.2.1 13 = .ok (.aload_n 2, 1) := by decide +kernel
theorem d_Arr_copyOf3_14 : decode m_Arr_copyOf3.2.1 14 = .ok (.invokevirtual 90, 3) := by decide +kernel
theorem d_Arr_copyOf3_17 : decode m_Arr_copyOf3.2.1 17 = .ok (.iload_n 1, 1) := by decide +kernel
theorem d_Arr_copyOf3_18 : decode m_Arr_copyOf3.2.1 18 = .ok (.invokestatic 95, 3) := by decide +kernel
theorem d_Arr_copyOf3_21 : decode m_Arr_copyOf3.2.1 21 = .ok (.checkcast 110, 3) := by decide +kernel
theorem d_Arr_copyOf3_24 : decode m_Arr_copyOf3.2.1 24 = .ok (.astore_n 3, 1) := by decide +kernel
theorem d_Arr_copyOf3_25 : decode m_Arr_copyOf3.2.1 25 = .ok (.aload_n 0, 1) := by decide +kernel
theorem d_Arr_copyOf3_26 : decode m_Arr_copyOf3.2.1 26 = .ok (.iconst 0, 1) := by decide +kernel
theorem d_Arr_copyOf3_27 : decode m_Arr_copyOf3.2.1 27 = .ok (.aload_n 3, 1) := by decide +kernel
theorem d_Arr_copyOf3_28 : decode m_Arr_copyOf3.2.1 28 = .ok (.iconst 0, 1) := by decide +kernel
theorem d_Arr_copyOf3_29 : decode m_Arr_copyOf3.2.1 29 = .ok (.aload_n 0, 1) := by decide +kernel
theorem d_Arr_copyOf3_30 : decode m_Arr_copyOf3.2.1 30 = .ok (.arraylength, 1) := by decide +kernel
theorem d_Arr_copyOf3_31 : decode m_Arr_copyOf3.2.1 31 = .ok (.iload_n 1, 1) := by decide +kernel
theorem d_Arr_copyOf3_32 : decode m_Arr_copyOf3.2.1 32 = .ok (.invokestatic 304, 3) := by decide +kernel
theorem d_Arr_copyOf3_35 : decode m_Arr_copyOf3.2.1 35 = .ok (.invokestatic 150, 3) := by decide +kernel
theorem d_Arr_copyOf3_38 : decode m_Arr_copyOf3.2.1 38 = .ok (.aload_n 3, 1) := by decide +kernel
theorem d_Arr_copyOf3_39 : decode m_Arr_copyOf3.2.1 39 = .ok (.areturn, 1) := by decide +kernel
theorem d_AS_newLength_0 : decode m_AS_newLength.2.1 0 = .ok (.iload_n 0, 1) := by decide +kernel
theorem d_AS_newLength_1 : decode m_AS_newLength.2.1 1 = .ok (.iload_n 1, 1) := by decide +kernel
theorem d_AS_newLength_2 : decode m_AS_newLength.2.1 2 = .ok (.iload_n 2, 1) := by decide +kernel
theorem d_AS_newLength_3 : decode m_AS_newLength.2.1 3 = .ok (.invokestatic 194, 3) := by decide +kernel
theorem d_AS_newLength_6 : decode m_AS_newLength.2.1 6 = .ok (.iadd, 1) := by decide +kernel
theorem d_AS_newLength_7 : decode m_AS_newLength.2.1 7 = .ok (.istore_n 3, 1) := by decide +kernel
theorem d_AS_newLength_8 : decode m_AS_newLength.2.1 8 = .ok (.iconst 0, 1) := by decide +kernel
theorem d_AS_newLength_9 : decode m_AS_newLength.2.1 9 = .ok (.iload_n 3, 1) := by decide +kernel
theorem d_AS_newLength_10 : decode m_AS_newLength.2.1 10 = .ok (.if_icmp .ge 11, 3) := by decide +kernel
theorem d_AS_newLength_13 : decode m_AS_newLength.2.1 13 = .ok (.iload_n 3, 1) := by decide +kernel
theorem d_AS_newLength_14 : decode m_AS_newLength.2.1 14 = .ok (.ldc 200, 2) := by decide +kernel
theorem d_AS_newLength_16 : decode m_AS_newLength.2.1 16 = .ok (.if_icmp .gt 5, 3) := by decide +kernel
theorem d_AS_newLength_19 : decode m_AS_newLength.2.1 19 = .ok (.iload_n 3, 1) := by decide +kernel
theorem d_AS_newLength_20 : decode m_AS_newLength.2.1 20 = .ok (.ireturn, 1) := by decide +kernel
theorem d_AS_newLength_21 : decode m_AS_newLength.2.1 21 = .ok (.iload_n 0, 1) := by decide +kernel
theorem d_AS_newLength_22 : decode m_AS_newLength.2.1 22 = .ok (.iload_n 1, 1) := by decide +kernel
theorem d_AS_newLength_23 : decode m_AS_newLength.2.1 23 = .ok (.invokestatic 201, 3) := by decide +kernel
theorem d_AS_newLength_26 : decode m_AS_newLength.2.1 26 = .ok (.ireturn, 1) := by decide +kernel
theorem d_Math_max_0 : decode m_Math_max.2.1 0 = .ok (.iload_n 0, 1) := by decide +kernel
theorem d_Math_max_1 : decode m_Math_max.2.1 1 = .ok (.iload_n 1, 1) := by decide +kernel
theorem d_Math_max_2 : decode m_Math_max.2.1 2 = .ok (.if_icmp .lt 7, 3) := by decide +kernel
theorem d_Math_max_5 : decode m_Math_max.2.1 5 = .ok (.iload_n 0, 1) := by decide +kernel
theorem d_Math_max_6 : decode m_Math_max.2.1 6 = .ok (.goto 4, 3) := by decide +kernel
theorem d_Math_max_9 : decode m_Math_max.2.1 9 = .ok (.iload_n 1, 1) := by decide +kernel
theorem d_Math_max_10 : decode m_Math_max.2.1 10 = .ok (.ireturn, 1) := by decide +kernel
theorem d_Math_min_0 : decode m_Math_min.2.1 0 = .ok (.iload_n 0, 1) := by decide +kernel
theorem d_Math_min_1 : decode m_Math_min.2.1 1 = .ok (.iload_n 1, 1) := by decide +kernel
theorem d_Math_min_2 : decode m_Math_min.2.1 2 = .ok (.if_icmp .gt 7, 3) := by decide +kernel
theorem d_Math_min_5 : decode m_Math_min.2.1 5 = .ok (.iload_n 0, 1) := by decide +kernel
theorem d_Math_min_6 : decode m_Math_min.2.1 6 = .ok (.goto 4, 3) := by decide +kernel
theorem d_Math_min_9 : decode m_Math_min.2.1 9 = .ok (.iload_n 1, 1) := by decide +kernel
theorem d_Math_min_10 : decode m_Math_min.2.1 10 = .ok (.ireturn, 1) := by decide +kernel
theorem d_SB_length_0 : decode m_SB_length.2.1 0 = .ok (.aload_n 0, 1) := by decide +kernel
theorem d_SB_length_1 : decode m_SB_length.2.1 1 = .ok (.invokespecial 343, 3) := by decide +kernel
theorem d_SB_length_4 : decode m_SB_length.2.1 4 = .ok (.ireturn, 1) := by decide +kernel
theorem d_ASB_length_0 : decode m_ASB_length.2.1 0 = .ok (.aload_n 0, 1) := by decide +kernel
theorem d_ASB_length_1 : decode m_ASB_length.2.1 1 = .ok (.getfield 79, 3) := by decide +kernel
theorem d_ASB_length_4 : decode m_ASB_length.2.1 4 = .ok (.ireturn, 1) := by decide +kernel
theorem d_SB_append_0 : decode m_SB_append.2.1 0 = .ok (.aload_n 0, 1) := by decide +kernel
theorem d_SB_append_1 : decode m_SB_append.2.1 1 = .ok (.iload_n 1, 1) := by decide +kernel
theorem d_SB_append_2 : decode m_SB_append.2.1 2 = .ok (.invokespecial 50, 3) := by decide +kernel
theorem d_SB_append_5 : decode m_SB_append.2.1 5 = .ok (.pop, 1) := by decide +kernel
theorem d_SB_append_6 : decode m_SB_append.2.1 6 = .ok (.aload_n 0, 1) := by decide +kernel
theorem d_SB_append_7 : decode m_SB_append.2.1 7 = .ok (.areturn, 1) := by decide +kernel
theorem d_ASB_append_0 : decode m_ASB_append.2.1 0 = .ok (.aload_n 0, 1) := by decide +kernel
theorem d_ASB_append_1 : decode m_ASB_append.2.1 1 = .ok (.aload_n 0, 1) := by decide +kernel
theorem d_ASB_append_2 : decode m_ASB_append.2.1 2 = .ok (.getfield 79, 3) := by decide +kernel
theorem d_ASB_append_5 : decode m_ASB_append.2.1 5 = .ok (.iconst 1, 1) := by decide +kernel
theorem d_ASB_append_6 : decode m_ASB_append.2.1 6 = .ok (.iadd, 1) := by decide +kernel
theorem d_ASB_append_7 : decode m_ASB_append.2.1 7 = .ok (.invokevirtual 100, 3) := by decide +kernel
theorem d_ASB_append_10 : decode m_ASB_append.2.1 10 = .ok (.aload_n 0, 1) := by decide +kernel
theorem d_ASB_append_11 : decode m_ASB_append.2.1 11 = .ok (.invokevirtual 83, 3) := by decide +kernel
theorem d_ASB_append_14 : decode m_ASB_append.2.1 14 = .ok (.ifCond .eq 31, 3) := by decide +kernel
theorem d_ASB_append_17 : decode m_ASB_append.2.1 17 = .ok (.iload_n 1, 1) := by decide +kernel
theorem d_ASB_append_18 : decode m_ASB_append.2.1 18 = .ok (.invokestatic 191, 3) := by decide +kernel
theorem d_ASB_append_21 : decode m_ASB_append.2.1 21 = .ok (.ifCond .eq 24, 3) := by decide +kernel
theorem d_ASB_append_24 : decode m_ASB_append.2.1 24 = .ok (.aload_n 0, 1) := by decide +kernel
theorem d_ASB_append_25 : decode m_ASB_append.2.1 25 = .ok (.getfield 15, 3) := by decide +kernel
theorem d_ASB_append_28 : decode m_ASB_append.2.1 28 = .ok (.aload_n 0, 1) := by decide +kernel
theorem d_ASB_append_29 : decode m_ASB_append.2.1 29 = .ok (.dup, 1) := by decide +kernel
theorem d_ASB_append_30 : decode m_ASB_append.2.1 30 = .ok (.getfield 79, 3) := by decide +kernel
theorem d_ASB_append_33 : decode m_ASB_append.2.1 33 = .ok (.dup_x1, 1) := by decide +kernel
theorem d_ASB_append_34 : decode m_ASB_append.2.1 34 = .ok (.iconst 1, 1) := by decide +kernel
theorem d_ASB_append_35 : decode m_ASB_append.2.1 35 = .ok (.iadd, 1) := by decide +kernel
theorem d_ASB_append_36 : decode m_ASB_append.2.1 36 = .ok (.putfield 79, 3) := by decide +kernel
theorem d_ASB_append_39 : decode m_ASB_append.2.1 39 = .ok (.iload_n 1, 1) := by decide +kernel
theorem d_ASB_append_40 : decode m_ASB_append.2.1 40 = .ok (.i2b, 1) := by decide +kernel
theorem d_ASB_append_41 : decode m_ASB_append.2.1 41 = .ok (.bastore, 1) := by decide +kernel
theorem d_ASB_append_42 : decode m_ASB_append.2.1 42 = .ok (.goto 33, 3) := by decide +kernel
theorem d_ASB_append_45 : decode m_ASB_append.2.1 45 = .ok (.aload_n 0, 1) := by decide +kernel
theorem d_ASB_append_46 : decode m_ASB_append.2.1 46 = .ok (.invokevirtual 83, 3) := by decide +kernel
theorem d_ASB_append_49 : decode m_ASB_append.2.1 49 = .ok (.ifCond .eq 7, 3) := by decide +kernel
theorem d_ASB_append_52 : decode m_ASB_append.2.1 52 = .ok (.aload_n 0, 1) := by decide +kernel
theorem d_ASB_append_53 : decode m_ASB_append.2.1 53 = .ok (.invokevirtual 195, 3) := by decide +kernel
theorem d_ASB_append_56 : decode m_ASB_append.2.1 56 = .ok (.aload_n 0, 1) := by decide +kernel
theorem d_ASB_append_57 : decode m_ASB_append.2.1 57 = .ok (.getfield 15, 3) := by decide +kernel
theorem d_ASB_append_60 : decode m_ASB_append.2.1 60 = .ok (.aload_n 0, 1) := by decide +kernel
theorem d_ASB_append_61 : decode m_ASB_append.2.1 61 = .ok (.dup, 1) := by decide +kernel
theorem d_ASB_append_62 : decode m_ASB_append.2.1 62 = .ok (.getfield 79, 3) := by decide +kernel
theorem d_ASB_append_65 : decode m_ASB_append.2.1 65 = .ok (.dup_x1, 1) := by decide +kernel
theorem d_ASB_append_66 : decode m_ASB_append.2.1 66 = .ok (.iconst 1, 1) := by decide +kernel
theorem d_ASB_append_67 : decode m_ASB_append.2.1 67 = .ok (.iadd, 1) := by decide +kernel
theorem d_ASB_append_68 : decode m_ASB_append.2.1 68 = .ok (.putfield 79, 3) := by decide +kernel
theorem d_ASB_append_71 : decode m_ASB_append.2.1 71 = .ok (.iload_n 1, 1) := by decide +kernel
theorem d_ASB_append_72 : decode m_ASB_append.2.1 72 = .ok (.invokestatic 197, 3) := by decide +kernel
theorem d_ASB_append_75 : decode m_ASB_append.2.1 75 = .ok (.aload_n 0, 1) := by decide +kernel
theorem d_ASB_append_76 : decode m_ASB_append.2.1 76 = .ok (.areturn, 1) := by decide +kernel
theorem d_ASB_ensureCapacityInternal_0 : decode m_ASB_ensureCapacityInternal.2.1 0 = .ok (.aload_n 0, 1) := by decide +kernel
theorem d_ASB_ensureCapacityInternal_1 : decode m_ASB_ensureCapacityInternal.2.1 1 = .ok (.getfield 15, 3) := by decide +kernel
theorem d_ASB_ensureCapacityInternal_4 : decode m_ASB_ensureCapacityInternal.2.1 4 = .ok (.arraylength, 1) := by decide +kernel
theorem d_ASB_ensureCapacityInternal_5 : decode m_ASB_ensureCapacityInternal.2.1 5 = .ok (.aload_n 0, 1) := by decide +kernel
theorem d_ASB_ensureCapacityInternal_6 : decode m_ASB_ensureCapacityInternal.2.1 6 = .ok (.getfield 22, 3) := by decide +kernel
theorem d_ASB_ensureCapacityInternal_9 : decode m_ASB_ensureCapacityInternal.2.1 9 = .ok (.ishr, 1) := by decide +kernel
theorem d_ASB_ensureCapacityInternal_10 : decode m_ASB_ensureCapacityInternal.2.1 10 = .ok (.istore_n 2, 1) := by decide +kernel
theorem d_ASB_ensureCapacityInternal_11 : decode m_ASB_ensureCapacityInternal.2.1 11 = .ok (.iload_n 1, 1) := by decide +kernel
theorem d_ASB_ensureCapacityInternal_12 : decode m_ASB_ensureCapacityInternal.2.1 12 = .ok (.iload_n 2, 1) := by decide +kernel
theorem d_ASB_ensureCapacityInternal_13 : decode m_ASB_ensureCapacityInternal.2.1 13 = .ok (.isub, 1) := by decide +kernel
theorem d_ASB_ensureCapacityInternal_14 : decode m_ASB_ensureCapacityInternal.2.1 14 = .ok (.ifCond .le 24, 3) := by decide +kernel
theorem d_ASB_ensureCapacityInternal_17 : decode m_ASB_ensureCapacityInternal.2.1 17 = .ok (.aload_n 0, 1) := by decide +kernel
theorem d_ASB_ensureCapacityInternal_18 : decode m_ASB_ensureCapacityInternal.2.1 18 = .ok (.aload_n 0, 1) := by decide +kernel
theorem d_ASB_ensureCapacityInternal_19 : decode m_ASB_ensureCapacityInternal.2.1 19 = .ok (.getfield 15, 3) := by decide +kernel
theorem d_ASB_ensureCapacityInternal_22 : decode m_ASB_ensureCapacityInternal.2.1 22 = .ok (.aload_n 0, 1) := by decide +kernel
theorem d_ASB_ensureCapacityInternal_23 : decode m_ASB_ensureCapacityInternal.2.1 23 = .ok (.iload_n 1, 1) := by decide +kernel
theorem d_ASB_ensureCapacityInternal_24 : decode m_ASB_ensureCapacityInternal.2.1 24 = .ok (.invokevirtual 104, 3) := by decide +kernel
theorem d_ASB_ensureCapacityInternal_27 : decode m_ASB_ensureCapacityInternal.2.1 27 = .ok (.aload_n 0, 1) := by decide +kernel
theorem d_ASB_ensureCapacityInternal_28 : decode m_ASB_ensureCapacityInternal.2.1 28 = .ok (.getfield 22, 3) := by decide +kernel
theorem d_ASB_ensureCapacityInternal_31 : decode m_ASB_ensureCapacityInternal.2.1 31 = .ok (.ishl, 1) := by decide +kernel
theorem d_ASB_ensureCapacityInternal_32 : decode m_ASB_ensureCapacityInternal.2.1 32 = .ok (.invokestatic 108, 3) := by decide +kernel
theorem d_ASB_ensureCapacityInternal_35 : decode m_ASB_ensureCapacityInternal.2.1 35 = .ok (.putfield 15, 3) := by decide +kernel
theorem d_ASB_ensureCapacityInternal_38 : decode m_ASB_ensureCapacityInternal.2.1 38 = .ok (.return_, 1) := by decide +kernel
theorem d_ASB_isLatin1_0 : decode m_ASB_isLatin1.2.1 0 = .ok (.getstatic 18, 3) := by decide +kernel
theorem d_ASB_isLatin1_3 : decode m_ASB_isLatin1.2.1 3 = .ok (.ifCond .eq 14, 3) := by decide +kernel
theorem d_ASB_isLatin1_6 : decode m_ASB_isLatin1.2.1 6 = .ok (.aload_n 0, 1) := by decide +kernel
theorem d_ASB_isLatin1_7 : decode m_ASB_isLatin1.2.1 7 = .ok (.getfield 22, 3) := by decide +kernel
theorem d_ASB_isLatin1_10 : decode m_ASB_isLatin1.2.1 10 = .ok (.ifCond .ne 7, 3) := by decide +kernel
theorem d_ASB_isLatin1_13 : decode m_ASB_isLatin1.2.1 13 = .ok (.iconst 1, 1) := by decide +kernel
theorem d_ASB_isLatin1_14 : decode m_ASB_isLatin1.2.1 14 = .ok (.goto 4, 3) := by decide +kernel
theorem d_ASB_isLatin1_17 : decode m_ASB_isLatin1.2.1 17 = .ok (.iconst 0, 1) := by decide +kernel
theorem d_ASB_isLatin1_18 : decode m_ASB_isLatin1.2.1 18 = .ok (.ireturn, 1) := by decide +kernel
theorem d_L1_canEncode_0 : decode m_L1_canEncode.2.1 0 = .ok (.iload_n 0, 1) := by decide +kernel
theorem d_L1_canEncode_1 : decode m_L1_canEncode.2.1 1 = .ok (.sipush 255, 3) := by decide +kernel
theorem d_L1_canEncode_4 : decode m_L1_canEncode.2.1 4 = .ok (.if_icmp .gt 7, 3) := by decide +kernel
theorem d_L1_canEncode_7 : decode m_L1_canEncode.2.1 7 = .ok (.iconst 1, 1) := by decide +kernel
theorem d_L1_canEncode_8 : decode m_L1_canEncode.2.1 8 = .ok (.goto 4, 3) := by decide +kernel
theorem d_L1_canEncode_11 : decode m_L1_canEncode.2.1 11 = .ok (.iconst 0, 1) := by decide +kernel
theorem d_L1_canEncode_12 : decode m_L1_canEncode.2.1 12 = .ok (.ireturn, 1) := by decide +kernel
theorem d_SB_toString_0 : decode m_SB_toString.2.1 0 = .ok (.new 18, 3) := by decide +kernel
theorem d_SB_toString_3 : decode m_SB_toString.2.1 3 = .ok (.dup, 1) := by decide +kernel
theorem d_SB_toString_4 : decode m_SB_toString.2.1 4 = .ok (.aload_n 0, 1) := by decide +kernel
theorem d_SB_toString_5 : decode m_SB_toString.2.1 5 = .ok (.invokespecial 137, 3) := by decide +kernel
theorem d_SB_toString_8 : decode m_SB_toString.2.1 8 = .ok (.areturn, 1) := by decide +kernel
theorem d_Str_init_0 : decode m_Str_init.2.1 0 = .ok (.aload_n 0, 1) := by decide +kernel
theorem d_Str_init_1 : decode m_Str_init.2.1 1 = .ok (.aload_n 1, 1) := by decide +kernel
theorem d_Str_init_2 : decode m_Str_init.2.1 2 = .ok (.aconst_null, 1) := by decide +kernel
theorem d_Str_init_3 : decode m_Str_init.2.1 3 = .ok (.invokespecial 489, 3) := by decide +kernel
theorem d_Str_init_6 : decode m_Str_init.2.1 6 = .ok (.return_, 1) := by decide +kernel
