/-! decode rows (printed by gen/names.py) -/
theorem d_D_isLiving_0 : decode m_D_isLiving.2.1 0 = .ok (.iconst 1, 1) := by decide +kernel
theorem d_D_isLiving_1 : decode m_D_isLiving.2.1 1 = .ok (.istore_n 2, 1) := by decide +kernel
theorem d_D_isLiving_2 : decode m_D_isLiving.2.1 2 = .ok (.iconst 0, 1) := by decide +kernel
theorem d_D_isLiving_3 : decode m_D_isLiving.2.1 3 = .ok (.istore_n 3, 1) := by decide +kernel
theorem d_D_isLiving_4 : decode m_D_isLiving.2.1 4 = .ok (.iload_n 3, 1) := by decide +kernel
theorem d_D_isLiving_5 : decode m_D_isLiving.2.1 5 = .ok (.aload_n 1, 1) := by decide +kernel
theorem d_D_isLiving_6 : decode m_D_isLiving.2.1 6 = .ok (.getfield 153, 3) := by decide +kernel
theorem d_D_isLiving_9 : decode m_D_isLiving.2.1 9 = .ok (.arraylength, 1) := by decide +kernel
theorem d_D_isLiving_10 : decode m_D_isLiving.2.1 10 = .ok (.if_icmp .ge 47, 3) := by decide +kernel
theorem d_D_isLiving_13 : decode m_D_isLiving.2.1 13 = .ok (.iload_n 2, 1) := by decide +kernel
theorem d_D_isLiving_14 : decode m_D_isLiving.2.1 14 = .ok (.ifCond .eq 35, 3) := by decide +kernel
theorem d_D_isLiving_17 : decode m_D_isLiving.2.1 17 = .ok (.aload_n 1, 1) := by decide +kernel
theorem d_D_isLiving_18 : decode m_D_isLiving.2.1 18 = .ok (.getfield 153, 3) := by decide +kernel
theorem d_D_isLiving_21 : decode m_D_isLiving.2.1 21 = .ok (.iload_n 3, 1) := by decide +kernel
theorem d_D_isLiving_22 : decode m_D_isLiving.2.1 22 = .ok (.iaload, 1) := by decide +kernel
theorem d_D_isLiving_23 : decode m_D_isLiving.2.1 23 = .ok (.bipush 6, 2) := by decide +kernel
theorem d_D_isLiving_25 : decode m_D_isLiving.2.1 25 = .ok (.if_icmp .lt 20, 3) := by decide +kernel
theorem d_D_isLiving_28 : decode m_D_isLiving.2.1 28 = .ok (.aload_n 0, 1) := by decide +kernel
theorem d_D_isLiving_29 : decode m_D_isLiving.2.1 29 = .ok (.getfield 35, 3) := by decide +kernel
theorem d_D_isLiving_32 : decode m_D_isLiving.2.1 32 = .ok (.aload_n 1, 1) := by decide +kernel
theorem d_D_isLiving_33 : decode m_D_isLiving.2.1 33 = .ok (.getfield 153, 3) := by decide +kernel
theorem d_D_isLiving_36 : decode m_D_isLiving.2.1 36 = .ok (.iload_n 3, 1) := by decide +kernel
theorem d_D_isLiving_37 : decode m_D_isLiving.2.1 37 = .ok (.iaload, 1) := by decide +kernel
theorem d_D_isLiving_38 : decode m_D_isLiving.2.1 38 = .ok (.bipush 7, 2) := by decide +kernel
theorem d_D_isLiving_40 : decode m_D_isLiving.2.1 40 = .ok (.isub, 1) := by decide +kernel
theorem d_D_isLiving_41 : decode m_D_isLiving.2.1 41 = .ok (.baload, 1) := by decide +kernel
theorem d_D_isLiving_42 : decode m_D_isLiving.2.1 42 = .ok (.ifCond .eq 7, 3) := by decide +kernel
theorem d_D_isLiving_45 : decode m_D_isLiving.2.1 45 = .ok (.iconst 1, 1) := by decide +kernel
theorem d_D_isLiving_46 : decode m_D_isLiving.2.1 46 = .ok (.goto 4, 3) := by decide +kernel
theorem d_D_isLiving_49 : decode m_D_isLiving.2.1 49 = .ok (.iconst 0, 1) := by decide +kernel
theorem d_D_isLiving_50 : decode m_D_isLiving.2.1 50 = .ok (.istore_n 2, 1) := by decide +kernel
theorem d_D_isLiving_51 : decode m_D_isLiving.2.1 51 = .ok (.iinc 3 1, 3) := by decide +kernel
theorem d_D_isLiving_54 : decode m_D_isLiving.2.1 54 = .ok (.goto (-50), 3) := by decide +kernel
theorem d_D_isLiving_57 : decode m_D_isLiving.2.1 57 = .ok (.iload_n 2, 1) := by decide +kernel
theorem d_D_isLiving_58 : decode m_D_isLiving.2.1 58 = .ok (.ireturn, 1) := by decide +kernel
theorem d_D_empty_0 : decode m_D_empty.2.1 0 = .ok (.iconst 1, 1) := by decide +kernel
theorem d_D_empty_1 : decode m_D_empty.2.1 1 = .ok (.istore_n 3, 1) := by decide +kernel
theorem d_D_empty_2 : decode m_D_empty.2.1 2 = .ok (.iload_n 2, 1) := by decide +kernel
theorem d_D_empty_3 : decode m_D_empty.2.1 3 = .ok (.istore 4, 2) := by decide +kernel
theorem d_D_empty_5 : decode m_D_empty.2.1 5 = .ok (.iload 4, 2) := by decide +kernel
theorem d_D_empty_7 : decode m_D_empty.2.1 7 = .ok (.aload_n 1, 1) := by decide +kernel
theorem d_D_empty_8 : decode m_D_empty.2.1 8 = .ok (.getfield 153, 3) := by decide +kernel
theorem d_D_empty_11 : decode m_D_empty.2.1 11 = .ok (.arraylength, 1) := by decide +kernel
theorem d_D_empty_12 : decode m_D_empty.2.1 12 = .ok (.if_icmp .ge 49, 3) := by decide +kernel
theorem d_D_empty_15 : decode m_D_empty.2.1 15 = .ok (.iload_n 3, 1) := by decide +kernel
theorem d_D_empty_16 : decode m_D_empty.2.1 16 = .ok (.ifCond .eq 37, 3) := by decide +kernel
theorem d_D_empty_19 : decode m_D_empty.2.1 19 = .ok (.aload_n 1, 1) := by decide +kernel
theorem d_D_empty_20 : decode m_D_empty.2.1 20 = .ok (.getfield 153, 3) := by decide +kernel
theorem d_D_empty_23 : decode m_D_empty.2.1 23 = .ok (.iload 4, 2) := by decide +kernel
theorem d_D_empty_25 : decode m_D_empty.2.1 25 = .ok (.iaload, 1) := by decide +kernel
theorem d_D_empty_26 : decode m_D_empty.2.1 26 = .ok (.bipush 7, 2) := by decide +kernel
theorem d_D_empty_28 : decode m_D_empty.2.1 28 = .ok (.if_icmp .lt 25, 3) := by decide +kernel
theorem d_D_empty_31 : decode m_D_empty.2.1 31 = .ok (.aload_n 0, 1) := by decide +kernel
theorem d_D_empty_32 : decode m_D_empty.2.1 32 = .ok (.getfield 39, 3) := by decide +kernel
theorem d_D_empty_35 : decode m_D_empty.2.1 35 = .ok (.aload_n 1, 1) := by decide +kernel
theorem d_D_empty_36 : decode m_D_empty.2.1 36 = .ok (.getfield 153, 3) := by decide +kernel
theorem d_D_empty_39 : decode m_D_empty.2.1 39 = .ok (.iload 4, 2) := by decide +kernel
theorem d_D_empty_41 : decode m_D_empty.2.1 41 = .ok (.iaload, 1) := by decide +kernel
theorem d_D_empty_42 : decode m_D_empty.2.1 42 = .ok (.bipush 7, 2) := by decide +kernel
theorem d_D_empty_44 : decode m_D_empty.2.1 44 = .ok (.isub, 1) := by decide +kernel
theorem d_D_empty_45 : decode m_D_empty.2.1 45 = .ok (.baload, 1) := by decide +kernel
theorem d_D_empty_46 : decode m_D_empty.2.1 46 = .ok (.ifCond .eq 7, 3) := by decide +kernel
theorem d_D_empty_49 : decode m_D_empty.2.1 49 = .ok (.iconst 1, 1) := by decide +kernel
theorem d_D_empty_50 : decode m_D_empty.2.1 50 = .ok (.goto 4, 3) := by decide +kernel
theorem d_D_empty_53 : decode m_D_empty.2.1 53 = .ok (.iconst 0, 1) := by decide +kernel
theorem d_D_empty_54 : decode m_D_empty.2.1 54 = .ok (.istore_n 3, 1) := by decide +kernel
theorem d_D_empty_55 : decode m_D_empty.2.1 55 = .ok (.iinc 4 1, 3) := by decide +kernel
theorem d_D_empty_58 : decode m_D_empty.2.1 58 = .ok (.goto (-53), 3) := by decide +kernel
theorem d_D_empty_61 : decode m_D_empty.2.1 61 = .ok (.iload_n 3, 1) := by decide +kernel
theorem d_D_empty_62 : decode m_D_empty.2.1 62 = .ok (.ireturn, 1) := by decide +kernel
theorem d_D_firsts_0 : decode m_D_firsts.2.1 0 = .ok (.iconst 0, 1) := by decide +kernel
theorem d_D_firsts_1 : decode m_D_firsts.2.1 1 = .ok (.istore_n 3, 1) := by decide +kernel
theorem d_D_firsts_2 : decode m_D_firsts.2.1 2 = .ok (.iconst 1, 1) := by decide +kernel
theorem d_D_firsts_3 : decode m_D_firsts.2.1 3 = .ok (.istore 4, 2) := by decide +kernel
theorem d_D_firsts_5 : decode m_D_firsts.2.1 5 = .ok (.iload_n 2, 1) := by decide +kernel
theorem d_D_firsts_6 : decode m_D_firsts.2.1 6 = .ok (.istore 5, 2) := by decide +kernel
theorem d_D_firsts_8 : decode m_D_firsts.2.1 8 = .ok (.iload 5, 2) := by decide +kernel
theorem d_D_firsts_10 : decode m_D_firsts.2.1 10 = .ok (.aload_n 1, 1) := by decide +kernel
theorem d_D_firsts_11 : decode m_D_firsts.2.1 11 = .ok (.getfield 153, 3) := by decide +kernel
theorem d_D_firsts_14 : decode m_D_firsts.2.1 14 = .ok (.arraylength, 1) := by decide +kernel
theorem d_D_firsts_15 : decode m_D_firsts.2.1 15 = .ok (.if_icmp .ge 77, 3) := by decide +kernel
theorem d_D_firsts_18 : decode m_D_firsts.2.1 18 = .ok (.iload 4, 2) := by decide +kernel
theorem d_D_firsts_20 : decode m_D_firsts.2.1 20 = .ok (.ifCond .eq 72, 3) := by decide +kernel
theorem d_D_firsts_23 : decode m_D_firsts.2.1 23 = .ok (.aload_n 1, 1) := by decide +kernel
theorem d_D_firsts_24 : decode m_D_firsts.2.1 24 = .ok (.getfield 153, 3) := by decide +kernel
theorem d_D_firsts_27 : decode m_D_firsts.2.1 27 = .ok (.iload 5, 2) := by decide +kernel
theorem d_D_firsts_29 : decode m_D_firsts.2.1 29 = .ok (.iaload, 1) := by decide +kernel
theorem d_D_firsts_30 : decode m_D_firsts.2.1 30 = .ok (.istore 6, 2) := by decide +kernel
theorem d_D_firsts_32 : decode m_D_firsts.2.1 32 = .ok (.iload_n 3, 1) := by decide +kernel
theorem d_D_firsts_33 : decode m_D_firsts.2.1 33 = .ok (.iload 6, 2) := by decide +kernel
theorem d_D_firsts_35 : decode m_D_firsts.2.1 35 = .ok (.bipush 6, 2) := by decide +kernel
theorem d_D_firsts_37 : decode m_D_firsts.2.1 37 = .ok (.if_icmp .ge 10, 3) := by decide +kernel
theorem d_D_firsts_40 : decode m_D_firsts.2.1 40 = .ok (.iconst 1, 1) := by decide +kernel
theorem d_D_firsts_41 : decode m_D_firsts.2.1 41 = .ok (.iload 6, 2) := by decide +kernel
theorem d_D_firsts_43 : decode m_D_firsts.2.1 43 = .ok (.ishl, 1) := by decide +kernel
theorem d_D_firsts_44 : decode m_D_firsts.2.1 44 = .ok (.goto 13, 3) := by decide +kernel
theorem d_D_firsts_47 : decode m_D_firsts.2.1 47 = .ok (.aload_n 0, 1) := by decide +kernel
theorem d_D_firsts_48 : decode m_D_firsts.2.1 48 = .ok (.getfield 42, 3) := by decide +kernel
theorem d_D_firsts_51 : decode m_D_firsts.2.1 51 = .ok (.iload 6, 2) := by decide +kernel
theorem d_D_firsts_53 : decode m_D_firsts.2.1 53 = .ok (.bipush 7, 2) := by decide +kernel
theorem d_D_firsts_55 : decode m_D_firsts.2.1 55 = .ok (.isub, 1) := by decide +kernel
theorem d_D_firsts_56 : decode m_D_firsts.2.1 56 = .ok (.iaload, 1) := by decide +kernel
theorem d_D_firsts_57 : decode m_D_firsts.2.1 57 = .ok (.ior, 1) := by decide +kernel
theorem d_D_firsts_58 : decode m_D_firsts.2.1 58 = .ok (.istore_n 3, 1) := by decide +kernel
theorem d_D_firsts_59 : decode m_D_firsts.2.1 59 = .ok (.iload 6, 2) := by decide +kernel
theorem d_D_firsts_61 : decode m_D_firsts.2.1 61 = .ok (.bipush 7, 2) := by decide +kernel
theorem d_D_firsts_63 : decode m_D_firsts.2.1 63 = .ok (.if_icmp .lt 20, 3) := by decide +kernel
theorem d_D_firsts_66 : decode m_D_firsts.2.1 66 = .ok (.aload_n 0, 1) := by decide +kernel
theorem d_D_firsts_67 : decode m_D_firsts.2.1 67 = .ok (.getfield 39, 3) := by decide +kernel
theorem d_D_firsts_70 : decode m_D_firsts.2.1 70 = .ok (.iload 6, 2) := by decide +kernel
theorem d_D_firsts_72 : decode m_D_firsts.2.1 72 = .ok (.bipush 7, 2) := by decide +kernel
theorem d_D_firsts_74 : decode m_D_firsts.2.1 74 = .ok (.isub, 1) := by decide +kernel
theorem d_D_firsts_75 : decode m_D_firsts.2.1 75 = .ok (.baload, 1) := by decide +kernel
theorem d_D_firsts_76 : decode m_D_firsts.2.1 76 = .ok (.ifCond .eq 7, 3) := by decide +kernel
theorem d_D_firsts_79 : decode m_D_firsts.2.1 79 = .ok (.iconst 1, 1) := by decide +kernel
theorem d_D_firsts_80 : decode m_D_firsts.2.1 80 = .ok (.goto 4, 3) := by decide +kernel
theorem d_D_firsts_83 : decode m_D_firsts.2.1 83 = .ok (.iconst 0, 1) := by decide +kernel
theorem d_D_firsts_84 : decode m_D_firsts.2.1 84 = .ok (.istore 4, 2) := by decide +kernel
theorem d_D_firsts_86 : decode m_D_firsts.2.1 86 = .ok (.iinc 5 1, 3) := by decide +kernel
theorem d_D_firsts_89 : decode m_D_firsts.2.1 89 = .ok (.goto (-81), 3) := by decide +kernel
theorem d_D_firsts_92 : decode m_D_firsts.2.1 92 = .ok (.iload_n 3, 1) := by decide +kernel
theorem d_D_firsts_93 : decode m_D_firsts.2.1 93 = .ok (.ireturn, 1) := by decide +kernel
theorem d_D_build_0 : decode m_D_build.2.1 0 = .ok (.aload_n 0, 1) := by decide +kernel
theorem d_D_build_1 : decode m_D_build.2.1 1 = .ok (.getfield 16, 3) := by decide +kernel
theorem d_D_build_4 : decode m_D_build.2.1 4 = .ok (.invokevirtual 207, 3) := by decide +kernel
theorem d_D_build_7 : decode m_D_build.2.1 7 = .ok (.iconst 1, 1) := by decide +kernel
theorem d_D_build_8 : decode m_D_build.2.1 8 = .ok (.newarray .int, 2) := by decide +kernel
theorem d_D_build_10 : decode m_D_build.2.1 10 = .ok (.dup, 1) := by decide +kernel
theorem d_D_build_11 : decode m_D_build.2.1 11 = .ok (.iconst 0, 1) := by decide +kernel
theorem d_D_build_12 : decode m_D_build.2.1 12 = .ok (.aload_n 0, 1) := by decide +kernel
theorem d_D_build_13 : decode m_D_build.2.1 13 = .ok (.getfield 10, 3) := by decide +kernel
theorem d_D_build_16 : decode m_D_build.2.1 16 = .ok (.iconst 0, 1) := by decide +kernel
theorem d_D_build_17 : decode m_D_build.2.1 17 = .ok (.invokevirtual 131, 3) := by decide +kernel
theorem d_D_build_20 : decode m_D_build.2.1 20 = .ok (.checkcast 123, 3) := by decide +kernel
theorem d_D_build_23 : decode m_D_build.2.1 23 = .ok (.getfield 156, 3) := by decide +kernel
theorem d_D_build_26 : decode m_D_build.2.1 26 = .ok (.iastore, 1) := by decide +kernel
theorem d_D_build_27 : decode m_D_build.2.1 27 = .ok (.astore_n 1, 1) := by decide +kernel
theorem d_D_build_28 : decode m_D_build.2.1 28 = .ok (.aload_n 0, 1) := by decide +kernel
theorem d_D_build_29 : decode m_D_build.2.1 29 = .ok (.getfield 16, 3) := by decide +kernel
theorem d_D_build_32 : decode m_D_build.2.1 32 = .ok (.new 123, 3) := by decide +kernel
theorem d_D_build_35 : decode m_D_build.2.1 35 = .ok (.dup, 1) := by decide +kernel
theorem d_D_build_36 : decode m_D_build.2.1 36 = .ok (.bipush 13, 2) := by decide +kernel
theorem d_D_build_38 : decode m_D_build.2.1 38 = .ok (.aload_n 1, 1) := by decide +kernel
theorem d_D_build_39 : decode m_D_build.2.1 39 = .ok (.invokespecial 125, 3) := by decide +kernel
theorem d_D_build_42 : decode m_D_build.2.1 42 = .ok (.invokevirtual 142, 3) := by decide +kernel
theorem d_D_build_45 : decode m_D_build.2.1 45 = .ok (.pop, 1) := by decide +kernel
theorem d_D_build_46 : decode m_D_build.2.1 46 = .ok (.iconst 0, 1) := by decide +kernel
theorem d_D_build_47 : decode m_D_build.2.1 47 = .ok (.istore_n 2, 1) := by decide +kernel
theorem d_D_build_48 : decode m_D_build.2.1 48 = .ok (.iload_n 2, 1) := by decide +kernel
theorem d_D_build_49 : decode m_D_build.2.1 49 = .ok (.aload_n 0, 1) := by decide +kernel
theorem d_D_build_50 : decode m_D_build.2.1 50 = .ok (.getfield 10, 3) := by decide +kernel
theorem d_D_build_53 : decode m_D_build.2.1 53 = .ok (.invokevirtual 128, 3) := by decide +kernel
theorem d_D_build_56 : decode m_D_build.2.1 56 = .ok (.if_icmp .ge 46, 3) := by decide +kernel
theorem d_D_build_59 : decode m_D_build.2.1 59 = .ok (.aload_n 0, 1) := by decide +kernel
theorem d_D_build_60 : decode m_D_build.2.1 60 = .ok (.aload_n 0, 1) := by decide +kernel
theorem d_D_build_61 : decode m_D_build.2.1 61 = .ok (.getfield 10, 3) := by decide +kernel
theorem d_D_build_64 : decode m_D_build.2.1 64 = .ok (.iload_n 2, 1) := by decide +kernel
theorem d_D_build_65 : decode m_D_build.2.1 65 = .ok (.invokevirtual 131, 3) := by decide +kernel
theorem d_D_build_68 : decode m_D_build.2.1 68 = .ok (.checkcast 123, 3) := by decide +kernel
theorem d_D_build_71 : decode m_D_build.2.1 71 = .ok (.invokevirtual 159, 3) := by decide +kernel
theorem d_D_build_74 : decode m_D_build.2.1 74 = .ok (.ifCond .eq 22, 3) := by decide +kernel
theorem d_D_build_77 : decode m_D_build.2.1 77 = .ok (.aload_n 0, 1) := by decide +kernel
theorem d_D_build_78 : decode m_D_build.2.1 78 = .ok (.getfield 16, 3) := by decide +kernel
theorem d_D_build_81 : decode m_D_build.2.1 81 = .ok (.aload_n 0, 1) := by decide +kernel
theorem d_D_build_82 : decode m_D_build.2.1 82 = .ok (.getfield 10, 3) := by decide +kernel
theorem d_D_build_85 : decode m_D_build.2.1 85 = .ok (.iload_n 2, 1) := by decide +kernel
theorem d_D_build_86 : decode m_D_build.2.1 86 = .ok (.invokevirtual 131, 3) := by decide +kernel
theorem d_D_build_89 : decode m_D_build.2.1 89 = .ok (.checkcast 123, 3) := by decide +kernel
theorem d_D_build_92 : decode m_D_build.2.1 92 = .ok (.invokevirtual 142, 3) := by decide +kernel
theorem d_D_build_95 : decode m_D_build.2.1 95 = .ok (.pop, 1) := by decide +kernel
theorem d_D_build_96 : decode m_D_build.2.1 96 = .ok (.iinc 2 1, 3) := by decide +kernel
theorem d_D_build_99 : decode m_D_build.2.1 99 = .ok (.goto (-51), 3) := by decide +kernel
theorem d_D_build_102 : decode m_D_build.2.1 102 = .ok (.aload_n 0, 1) := by decide +kernel
theorem d_D_build_103 : decode m_D_build.2.1 103 = .ok (.iconst 0, 1) := by decide +kernel
theorem d_D_build_104 : decode m_D_build.2.1 104 = .ok (.putfield 197, 3) := by decide +kernel
theorem d_D_build_107 : decode m_D_build.2.1 107 = .ok (.aload_n 0, 1) := by decide +kernel
theorem d_D_build_108 : decode m_D_build.2.1 108 = .ok (.invokevirtual 186, 3) := by decide +kernel
theorem d_D_build_111 : decode m_D_build.2.1 111 = .ok (.aload_n 0, 1) := by decide +kernel
theorem d_D_build_112 : decode m_D_build.2.1 112 = .ok (.aload_n 0, 1) := by decide +kernel
theorem d_D_build_113 : decode m_D_build.2.1 113 = .ok (.getfield 189, 3) := by decide +kernel
theorem d_D_build_116 : decode m_D_build.2.1 116 = .ok (.bipush 13, 2) := by decide +kernel
theorem d_D_build_118 : decode m_D_build.2.1 118 = .ok (.bipush 64, 2) := by decide +kernel
theorem d_D_build_120 : decode m_D_build.2.1 120 = .ok (.invokevirtual 182, 3) := by decide +kernel
theorem d_D_build_123 : decode m_D_build.2.1 123 = .ok (.pop, 1) := by decide +kernel
theorem d_D_build_124 : decode m_D_build.2.1 124 = .ok (.aload_n 0, 1) := by decide +kernel
theorem d_D_build_125 : decode m_D_build.2.1 125 = .ok (.aload_n 0, 1) := by decide +kernel
theorem d_D_build_126 : decode m_D_build.2.1 126 = .ok (.getfield 189, 3) := by decide +kernel
theorem d_D_build_129 : decode m_D_build.2.1 129 = .ok (.invokevirtual 193, 3) := by decide +kernel
theorem d_D_build_132 : decode m_D_build.2.1 132 = .ok (.aload_n 0, 1) := by decide +kernel
theorem d_D_build_133 : decode m_D_build.2.1 133 = .ok (.invokevirtual 208, 3) := by decide +kernel
theorem d_D_build_136 : decode m_D_build.2.1 136 = .ok (.pop, 1) := by decide +kernel
theorem d_D_build_137 : decode m_D_build.2.1 137 = .ok (.iconst 0, 1) := by decide +kernel
theorem d_D_build_138 : decode m_D_build.2.1 138 = .ok (.istore_n 2, 1) := by decide +kernel
theorem d_D_build_139 : decode m_D_build.2.1 139 = .ok (.iload_n 2, 1) := by decide +kernel
theorem d_D_build_140 : decode m_D_build.2.1 140 = .ok (.aload_n 0, 1) := by decide +kernel
theorem d_D_build_141 : decode m_D_build.2.1 141 = .ok (.getfield 197, 3) := by decide +kernel
theorem d_D_build_144 : decode m_D_build.2.1 144 = .ok (.if_icmp .ge 89, 3) := by decide +kernel
theorem d_D_build_147 : decode m_D_build.2.1 147 = .ok (.iconst 0, 1) := by decide +kernel
theorem d_D_build_148 : decode m_D_build.2.1 148 = .ok (.istore_n 3, 1) := by decide +kernel
theorem d_D_build_149 : decode m_D_build.2.1 149 = .ok (.iload_n 3, 1) := by decide +kernel
theorem d_D_build_150 : decode m_D_build.2.1 150 = .ok (.bipush 13, 2) := by decide +kernel
theorem d_D_build_152 : decode m_D_build.2.1 152 = .ok (.if_icmp .ge 75, 3) := by decide +kernel
theorem d_D_build_155 : decode m_D_build.2.1 155 = .ok (.aload_n 0, 1) := by decide +kernel
theorem d_D_build_156 : decode m_D_build.2.1 156 = .ok (.aload_n 0, 1) := by decide +kernel
theorem d_D_build_157 : decode m_D_build.2.1 157 = .ok (.getfield 45, 3) := by decide +kernel
theorem d_D_build_160 : decode m_D_build.2.1 160 = .ok (.iload_n 2, 1) := by decide +kernel
theorem d_D_build_161 : decode m_D_build.2.1 161 = .ok (.invokevirtual 131, 3) := by decide +kernel
theorem d_D_build_164 : decode m_D_build.2.1 164 = .ok (.checkcast 171, 3) := by decide +kernel
theorem d_D_build_167 : decode m_D_build.2.1 167 = .ok (.iload_n 3, 1) := by decide +kernel
theorem d_D_build_168 : decode m_D_build.2.1 168 = .ok (.invokevirtual 211, 3) := by decide +kernel
theorem d_D_build_171 : decode m_D_build.2.1 171 = .ok (.aload_n 0, 1) := by decide +kernel
theorem d_D_build_172 : decode m_D_build.2.1 172 = .ok (.getfield 189, 3) := by decide +kernel
theorem d_D_build_175 : decode m_D_build.2.1 175 = .ok (.invokevirtual 215, 3) := by decide +kernel
theorem d_D_build_178 : decode m_D_build.2.1 178 = .ok (.ifCond .eq 7, 3) := by decide +kernel
theorem d_D_build_181 : decode m_D_build.2.1 181 = .ok (.iconst (-1), 1) := by decide +kernel
theorem d_D_build_182 : decode m_D_build.2.1 182 = .ok (.goto 7, 3) := by decide +kernel
theorem d_D_build_185 : decode m_D_build.2.1 185 = .ok (.aload_n 0, 1) := by decide +kernel
theorem d_D_build_186 : decode m_D_build.2.1 186 = .ok (.invokevirtual 208, 3) := by decide +kernel
theorem d_D_build_189 : decode m_D_build.2.1 189 = .ok (.istore 4, 2) := by decide +kernel
theorem d_D_build_191 : decode m_D_build.2.1 191 = .ok (.iload 4, 2) := by decide +kernel
theorem d_D_build_193 : decode m_D_build.2.1 193 = .ok (.ifCond .ge 15, 3) := by decide +kernel
theorem d_D_build_196 : decode m_D_build.2.1 196 = .ok (.aload_n 0, 1) := by decide +kernel
theorem d_D_build_197 : decode m_D_build.2.1 197 = .ok (.getfield 189, 3) := by decide +kernel
theorem d_D_build_200 : decode m_D_build.2.1 200 = .ok (.invokevirtual 215, 3) := by decide +kernel
theorem d_D_build_203 : decode m_D_build.2.1 203 = .ok (.ifCond .ne 5, 3) := by decide +kernel
theorem d_D_build_206 : decode m_D_build.2.1 206 = .ok (.iconst 0, 1) := by decide +kernel
theorem d_D_build_207 : decode m_D_build.2.1 207 = .ok (.ireturn, 1) := by decide +kernel
theorem d_D_build_208 : decode m_D_build.2.1 208 = .ok (.aload_n 0, 1) := by decide +kernel
theorem d_D_build_209 : decode m_D_build.2.1 209 = .ok (.getfield 50, 3) := by decide +kernel
theorem d_D_build_212 : decode m_D_build.2.1 212 = .ok (.iload_n 2, 1) := by decide +kernel
theorem d_D_build_213 : decode m_D_build.2.1 213 = .ok (.aaload, 1) := by decide +kernel
theorem d_D_build_214 : decode m_D_build.2.1 214 = .ok (.iload_n 3, 1) := by decide +kernel
theorem d_D_build_215 : decode m_D_build.2.1 215 = .ok (.iconst 1, 1) := by decide +kernel
theorem d_D_build_216 : decode m_D_build.2.1 216 = .ok (.iload 4, 2) := by decide +kernel
theorem d_D_build_218 : decode m_D_build.2.1 218 = .ok (.iadd, 1) := by decide +kernel
theorem d_D_build_219 : decode m_D_build.2.1 219 = .ok (.i2s, 1) := by decide +kernel
theorem d_D_build_220 : decode m_D_build.2.1 220 = .ok (.sastore, 1) := by decide +kernel
theorem d_D_build_221 : decode m_D_build.2.1 221 = .ok (.iinc 3 1, 3) := by decide +kernel
theorem d_D_build_224 : decode m_D_build.2.1 224 = .ok (.goto (-75), 3) := by decide +kernel
theorem d_D_build_227 : decode m_D_build.2.1 227 = .ok (.iinc 2 1, 3) := by decide +kernel
theorem d_D_build_230 : decode m_D_build.2.1 230 = .ok (.goto (-91), 3) := by decide +kernel
theorem d_D_build_233 : decode m_D_build.2.1 233 = .ok (.iconst 1, 1) := by decide +kernel
theorem d_D_build_234 : decode m_D_build.2.1 234 = .ok (.ireturn, 1) := by decide +kernel
theorem d_D_ready_0 : decode m_D_ready.2.1 0 = .ok (.aload_n 0, 1) := by decide +kernel
theorem d_D_ready_1 : decode m_D_ready.2.1 1 = .ok (.getfield 45, 3) := by decide +kernel
theorem d_D_ready_4 : decode m_D_ready.2.1 4 = .ok (.invokevirtual 128, 3) := by decide +kernel
theorem d_D_ready_7 : decode m_D_ready.2.1 7 = .ok (.aload_n 0, 1) := by decide +kernel
theorem d_D_ready_8 : decode m_D_ready.2.1 8 = .ok (.getfield 197, 3) := by decide +kernel
theorem d_D_ready_11 : decode m_D_ready.2.1 11 = .ok (.if_icmp .ne 18, 3) := by decide +kernel
theorem d_D_ready_14 : decode m_D_ready.2.1 14 = .ok (.aload_n 0, 1) := by decide +kernel
theorem d_D_ready_15 : decode m_D_ready.2.1 15 = .ok (.getfield 45, 3) := by decide +kernel
theorem d_D_ready_18 : decode m_D_ready.2.1 18 = .ok (.new 171, 3) := by decide +kernel
theorem d_D_ready_21 : decode m_D_ready.2.1 21 = .ok (.dup, 1) := by decide +kernel
theorem d_D_ready_22 : decode m_D_ready.2.1 22 = .ok (.invokespecial 200, 3) := by decide +kernel
theorem d_D_ready_25 : decode m_D_ready.2.1 25 = .ok (.invokevirtual 142, 3) := by decide +kernel
theorem d_D_ready_28 : decode m_D_ready.2.1 28 = .ok (.pop, 1) := by decide +kernel
theorem d_D_ready_29 : decode m_D_ready.2.1 29 = .ok (.aload_n 0, 1) := by decide +kernel
theorem d_D_ready_30 : decode m_D_ready.2.1 30 = .ok (.aload_n 0, 1) := by decide +kernel
theorem d_D_ready_31 : decode m_D_ready.2.1 31 = .ok (.getfield 45, 3) := by decide +kernel
theorem d_D_ready_34 : decode m_D_ready.2.1 34 = .ok (.aload_n 0, 1) := by decide +kernel
theorem d_D_ready_35 : decode m_D_ready.2.1 35 = .ok (.getfield 197, 3) := by decide +kernel
theorem d_D_ready_38 : decode m_D_ready.2.1 38 = .ok (.invokevirtual 131, 3) := by decide +kernel
theorem d_D_ready_41 : decode m_D_ready.2.1 41 = .ok (.checkcast 171, 3) := by decide +kernel
theorem d_D_ready_44 : decode m_D_ready.2.1 44 = .ok (.putfield 189, 3) := by decide +kernel
theorem d_D_ready_47 : decode m_D_ready.2.1 47 = .ok (.aload_n 0, 1) := by decide +kernel
theorem d_D_ready_48 : decode m_D_ready.2.1 48 = .ok (.getfield 189, 3) := by decide +kernel
theorem d_D_ready_51 : decode m_D_ready.2.1 51 = .ok (.invokevirtual 201, 3) := by decide +kernel
theorem d_D_ready_54 : decode m_D_ready.2.1 54 = .ok (.return_, 1) := by decide +kernel
theorem d_S_init_0 : decode m_S_init.2.1 0 = .ok (.aload_n 0, 1) := by decide +kernel
theorem d_S_init_1 : decode m_S_init.2.1 1 = .ok (.invokespecial 3, 3) := by decide +kernel
theorem d_S_init_4 : decode m_S_init.2.1 4 = .ok (.aload_n 0, 1) := by decide +kernel
theorem d_S_init_5 : decode m_S_init.2.1 5 = .ok (.bipush 7, 2) := by decide +kernel
theorem d_S_init_7 : decode m_S_init.2.1 7 = .ok (.newarray .long, 2) := by decide +kernel
theorem d_S_init_9 : decode m_S_init.2.1 9 = .ok (.putfield 9, 3) := by decide +kernel
theorem d_S_init_12 : decode m_S_init.2.1 12 = .ok (.return_, 1) := by decide +kernel
theorem d_S_clear_0 : decode m_S_clear.2.1 0 = .ok (.iconst 0, 1) := by decide +kernel
theorem d_S_clear_1 : decode m_S_clear.2.1 1 = .ok (.istore_n 1, 1) := by decide +kernel
theorem d_S_clear_2 : decode m_S_clear.2.1 2 = .ok (.iload_n 1, 1) := by decide +kernel
theorem d_S_clear_3 : decode m_S_clear.2.1 3 = .ok (.bipush 7, 2) := by decide +kernel
theorem d_S_clear_5 : decode m_S_clear.2.1 5 = .ok (.if_icmp .ge 16, 3) := by decide +kernel
theorem d_S_clear_8 : decode m_S_clear.2.1 8 = .ok (.aload_n 0, 1) := by decide +kernel
theorem d_S_clear_9 : decode m_S_clear.2.1 9 = .ok (.getfield 9, 3) := by decide +kernel
theorem d_S_clear_12 : decode m_S_clear.2.1 12 = .ok (.iload_n 1, 1) := by decide +kernel
theorem d_S_clear_13 : decode m_S_clear.2.1 13 = .ok (.lconst 0, 1) := by decide +kernel
theorem d_S_clear_14 : decode m_S_clear.2.1 14 = .ok (.lastore, 1) := by decide +kernel
theorem d_S_clear_15 : decode m_S_clear.2.1 15 = .ok (.iinc 1 1, 3) := by decide +kernel
theorem d_S_clear_18 : decode m_S_clear.2.1 18 = .ok (.goto (-16), 3) := by decide +kernel
theorem d_S_clear_21 : decode m_S_clear.2.1 21 = .ok (.return_, 1) := by decide +kernel
theorem d_D_spread_0 : decode m_D_spread.2.1 0 = .ok (.iconst 0, 1) := by decide +kernel
theorem d_D_spread_1 : decode m_D_spread.2.1 1 = .ok (.istore 4, 2) := by decide +kernel
theorem d_D_spread_3 : decode m_D_spread.2.1 3 = .ok (.iconst 0, 1) := by decide +kernel
theorem d_D_spread_4 : decode m_D_spread.2.1 4 = .ok (.istore 5, 2) := by decide +kernel
theorem d_D_spread_6 : decode m_D_spread.2.1 6 = .ok (.iload 5, 2) := by decide +kernel
theorem d_D_spread_8 : decode m_D_spread.2.1 8 = .ok (.aload_n 0, 1) := by decide +kernel
theorem d_D_spread_9 : decode m_D_spread.2.1 9 = .ok (.getfield 16, 3) := by decide +kernel
theorem d_D_spread_12 : decode m_D_spread.2.1 12 = .ok (.invokevirtual 128, 3) := by decide +kernel
theorem d_D_spread_15 : decode m_D_spread.2.1 15 = .ok (.if_icmp .ge 74, 3) := by decide +kernel
theorem d_D_spread_18 : decode m_D_spread.2.1 18 = .ok (.aload_n 0, 1) := by decide +kernel
theorem d_D_spread_19 : decode m_D_spread.2.1 19 = .ok (.getfield 16, 3) := by decide +kernel
theorem d_D_spread_22 : decode m_D_spread.2.1 22 = .ok (.iload 5, 2) := by decide +kernel
theorem d_D_spread_24 : decode m_D_spread.2.1 24 = .ok (.invokevirtual 131, 3) := by decide +kernel
theorem d_D_spread_27 : decode m_D_spread.2.1 27 = .ok (.checkcast 123, 3) := by decide +kernel
theorem d_D_spread_30 : decode m_D_spread.2.1 30 = .ok (.getfield 156, 3) := by decide +kernel
theorem d_D_spread_33 : decode m_D_spread.2.1 33 = .ok (.iload_n 2, 1) := by decide +kernel
theorem d_D_spread_34 : decode m_D_spread.2.1 34 = .ok (.if_icmp .eq 6, 3) := by decide +kernel
theorem d_D_spread_37 : decode m_D_spread.2.1 37 = .ok (.goto 46, 3) := by decide +kernel
theorem d_D_spread_40 : decode m_D_spread.2.1 40 = .ok (.iconst 0, 1) := by decide +kernel
theorem d_D_spread_41 : decode m_D_spread.2.1 41 = .ok (.istore 6, 2) := by decide +kernel
theorem d_D_spread_43 : decode m_D_spread.2.1 43 = .ok (.iload 6, 2) := by decide +kernel
theorem d_D_spread_45 : decode m_D_spread.2.1 45 = .ok (.bipush 7, 2) := by decide +kernel
theorem d_D_spread_47 : decode m_D_spread.2.1 47 = .ok (.if_icmp .ge 36, 3) := by decide +kernel
theorem d_D_spread_50 : decode m_D_spread.2.1 50 = .ok (.iload_n 3, 1) := by decide +kernel
theorem d_D_spread_51 : decode m_D_spread.2.1 51 = .ok (.iload 6, 2) := by decide +kernel
theorem d_D_spread_53 : decode m_D_spread.2.1 53 = .ok (.ishr, 1) := by decide +kernel
theorem d_D_spread_54 : decode m_D_spread.2.1 54 = .ok (.iconst 1, 1) := by decide +kernel
theorem d_D_spread_55 : decode m_D_spread.2.1 55 = .ok (.iand, 1) := by decide +kernel
theorem d_D_spread_56 : decode m_D_spread.2.1 56 = .ok (.iconst 1, 1) := by decide +kernel
theorem d_D_spread_57 : decode m_D_spread.2.1 57 = .ok (.if_icmp .ne 20, 3) := by decide +kernel
theorem d_D_spread_60 : decode m_D_spread.2.1 60 = .ok (.iload 4, 2) := by decide +kernel
theorem d_D_spread_62 : decode m_D_spread.2.1 62 = .ok (.aload_n 1, 1) := by decide +kernel
theorem d_D_spread_63 : decode m_D_spread.2.1 63 = .ok (.iload 5, 2) := by decide +kernel
theorem d_D_spread_65 : decode m_D_spread.2.1 65 = .ok (.iconst 0, 1) := by decide +kernel
theorem d_D_spread_66 : decode m_D_spread.2.1 66 = .ok (.iload 6, 2) := by decide +kernel
theorem d_D_spread_68 : decode m_D_spread.2.1 68 = .ok (.invokestatic 170, 3) := by decide +kernel
theorem d_D_spread_71 : decode m_D_spread.2.1 71 = .ok (.invokevirtual 176, 3) := by decide +kernel
theorem d_D_spread_74 : decode m_D_spread.2.1 74 = .ok (.ior, 1) := by decide +kernel
theorem d_D_spread_75 : decode m_D_spread.2.1 75 = .ok (.istore 4, 2) := by decide +kernel
theorem d_D_spread_77 : decode m_D_spread.2.1 77 = .ok (.iinc 6 1, 3) := by decide +kernel
theorem d_D_spread_80 : decode m_D_spread.2.1 80 = .ok (.goto (-37), 3) := by decide +kernel
theorem d_D_spread_83 : decode m_D_spread.2.1 83 = .ok (.iinc 5 1, 3) := by decide +kernel
theorem d_D_spread_86 : decode m_D_spread.2.1 86 = .ok (.goto (-80), 3) := by decide +kernel
theorem d_D_spread_89 : decode m_D_spread.2.1 89 = .ok (.iload 4, 2) := by decide +kernel
theorem d_D_spread_91 : decode m_D_spread.2.1 91 = .ok (.ireturn, 1) := by decide +kernel
theorem d_S_item_0 : decode m_S_item.2.1 0 = .ok (.iload_n 0, 1) := by decide +kernel
theorem d_S_item_1 : decode m_S_item.2.1 1 = .ok (.iconst 5, 1) := by decide +kernel
theorem d_S_item_2 : decode m_S_item.2.1 2 = .ok (.imul, 1) := by decide +kernel
theorem d_S_item_3 : decode m_S_item.2.1 3 = .ok (.iload_n 1, 1) := by decide +kernel
theorem d_S_item_4 : decode m_S_item.2.1 4 = .ok (.iadd, 1) := by decide +kernel
theorem d_S_item_5 : decode m_S_item.2.1 5 = .ok (.bipush 7, 2) := by decide +kernel
theorem d_S_item_7 : decode m_S_item.2.1 7 = .ok (.imul, 1) := by decide +kernel
theorem d_S_item_8 : decode m_S_item.2.1 8 = .ok (.iload_n 2, 1) := by decide +kernel
theorem d_S_item_9 : decode m_S_item.2.1 9 = .ok (.iadd, 1) := by decide +kernel
theorem d_S_item_10 : decode m_S_item.2.1 10 = .ok (.ireturn, 1) := by decide +kernel
theorem d_S_add_0 : decode m_S_add.2.1 0 = .ok (.aload_n 0, 1) := by decide +kernel
theorem d_S_add_1 : decode m_S_add.2.1 1 = .ok (.iload_n 1, 1) := by decide +kernel
theorem d_S_add_2 : decode m_S_add.2.1 2 = .ok (.invokevirtual 15, 3) := by decide +kernel
theorem d_S_add_5 : decode m_S_add.2.1 5 = .ok (.ifCond .ne 7, 3) := by decide +kernel
theorem d_S_add_8 : decode m_S_add.2.1 8 = .ok (.iconst 1, 1) := by decide +kernel
theorem d_S_add_9 : decode m_S_add.2.1 9 = .ok (.goto 4, 3) := by decide +kernel
theorem d_S_add_12 : decode m_S_add.2.1 12 = .ok (.iconst 0, 1) := by decide +kernel
theorem d_S_add_13 : decode m_S_add.2.1 13 = .ok (.istore_n 2, 1) := by decide +kernel
theorem d_S_add_14 : decode m_S_add.2.1 14 = .ok (.aload_n 0, 1) := by decide +kernel
theorem d_S_add_15 : decode m_S_add.2.1 15 = .ok (.getfield 9, 3) := by decide +kernel
theorem d_S_add_18 : decode m_S_add.2.1 18 = .ok (.iload_n 1, 1) := by decide +kernel
theorem d_S_add_19 : decode m_S_add.2.1 19 = .ok (.bipush 6, 2) := by decide +kernel
theorem d_S_add_21 : decode m_S_add.2.1 21 = .ok (.ishr, 1) := by decide +kernel
theorem d_S_add_22 : decode m_S_add.2.1 22 = .ok (.dup2, 1) := by decide +kernel
theorem d_S_add_23 : decode m_S_add.2.1 23 = .ok (.laload, 1) := by decide +kernel
theorem d_S_add_24 : decode m_S_add.2.1 24 = .ok (.lconst 1, 1) := by decide +kernel
theorem d_S_add_25 : decode m_S_add.2.1 25 = .ok (.iload_n 1, 1) := by decide +kernel
theorem d_S_add_26 : decode m_S_add.2.1 26 = .ok (.bipush 63, 2) := by decide +kernel
theorem d_S_add_28 : decode m_S_add.2.1 28 = .ok (.iand, 1) := by decide +kernel
theorem d_S_add_29 : decode m_S_add.2.1 29 = .ok (.lshl, 1) := by decide +kernel
theorem d_S_add_30 : decode m_S_add.2.1 30 = .ok (.lor, 1) := by decide +kernel
theorem d_S_add_31 : decode m_S_add.2.1 31 = .ok (.lastore, 1) := by decide +kernel
theorem d_S_add_32 : decode m_S_add.2.1 32 = .ok (.iload_n 2, 1) := by decide +kernel
theorem d_S_add_33 : decode m_S_add.2.1 33 = .ok (.ireturn, 1) := by decide +kernel
theorem d_S_has_0 : decode m_S_has.2.1 0 = .ok (.aload_n 0, 1) := by decide +kernel
theorem d_S_has_1 : decode m_S_has.2.1 1 = .ok (.getfield 9, 3) := by decide +kernel
theorem d_S_has_4 : decode m_S_has.2.1 4 = .ok (.iload_n 1, 1) := by decide +kernel
theorem d_S_has_5 : decode m_S_has.2.1 5 = .ok (.bipush 6, 2) := by decide +kernel
theorem d_S_has_7 : decode m_S_has.2.1 7 = .ok (.ishr, 1) := by decide +kernel
theorem d_S_has_8 : decode m_S_has.2.1 8 = .ok (.laload, 1) := by decide +kernel
theorem d_S_has_9 : decode m_S_has.2.1 9 = .ok (.iload_n 1, 1) := by decide +kernel
theorem d_S_has_10 : decode m_S_has.2.1 10 = .ok (.bipush 63, 2) := by decide +kernel
theorem d_S_has_12 : decode m_S_has.2.1 12 = .ok (.iand, 1) := by decide +kernel
theorem d_S_has_13 : decode m_S_has.2.1 13 = .ok (.lshr, 1) := by decide +kernel
theorem d_S_has_14 : decode m_S_has.2.1 14 = .ok (.lconst 1, 1) := by decide +kernel
theorem d_S_has_15 : decode m_S_has.2.1 15 = .ok (.land, 1) := by decide +kernel
theorem d_S_has_16 : decode m_S_has.2.1 16 = .ok (.lconst 1, 1) := by decide +kernel
theorem d_S_has_17 : decode m_S_has.2.1 17 = .ok (.lcmp, 1) := by decide +kernel
theorem d_S_has_18 : decode m_S_has.2.1 18 = .ok (.ifCond .ne 7, 3) := by decide +kernel
theorem d_S_has_21 : decode m_S_has.2.1 21 = .ok (.iconst 1, 1) := by decide +kernel
theorem d_S_has_22 : decode m_S_has.2.1 22 = .ok (.goto 4, 3) := by decide +kernel
theorem d_S_has_25 : decode m_S_has.2.1 25 = .ok (.iconst 0, 1) := by decide +kernel
theorem d_S_has_26 : decode m_S_has.2.1 26 = .ok (.ireturn, 1) := by decide +kernel
theorem d_D_close_0 : decode m_D_close.2.1 0 = .ok (.iconst 1, 1) := by decide +kernel
theorem d_D_close_1 : decode m_D_close.2.1 1 = .ok (.istore_n 2, 1) := by decide +kernel
theorem d_D_close_2 : decode m_D_close.2.1 2 = .ok (.iload_n 2, 1) := by decide +kernel
theorem d_D_close_3 : decode m_D_close.2.1 3 = .ok (.ifCond .eq 167, 3) := by decide +kernel
theorem d_D_close_6 : decode m_D_close.2.1 6 = .ok (.iconst 0, 1) := by decide +kernel
theorem d_D_close_7 : decode m_D_close.2.1 7 = .ok (.istore_n 2, 1) := by decide +kernel
theorem d_D_close_8 : decode m_D_close.2.1 8 = .ok (.iconst 0, 1) := by decide +kernel
theorem d_D_close_9 : decode m_D_close.2.1 9 = .ok (.istore_n 3, 1) := by decide +kernel
theorem d_D_close_10 : decode m_D_close.2.1 10 = .ok (.iload_n 3, 1) := by decide +kernel
theorem d_D_close_11 : decode m_D_close.2.1 11 = .ok (.aload_n 0, 1) := by decide +kernel
theorem d_D_close_12 : decode m_D_close.2.1 12 = .ok (.getfield 16, 3) := by decide +kernel
theorem d_D_close_15 : decode m_D_close.2.1 15 = .ok (.invokevirtual 128, 3) := by decide +kernel
theorem d_D_close_18 : decode m_D_close.2.1 18 = .ok (.if_icmp .ge 149, 3) := by decide +kernel
theorem d_D_close_21 : decode m_D_close.2.1 21 = .ok (.aload_n 0, 1) := by decide +kernel
theorem d_D_close_22 : decode m_D_close.2.1 22 = .ok (.getfield 16, 3) := by decide +kernel
theorem d_D_close_25 : decode m_D_close.2.1 25 = .ok (.iload_n 3, 1) := by decide +kernel
theorem d_D_close_26 : decode m_D_close.2.1 26 = .ok (.invokevirtual 131, 3) := by decide +kernel
theorem d_D_close_29 : decode m_D_close.2.1 29 = .ok (.checkcast 123, 3) := by decide +kernel
theorem d_D_close_32 : decode m_D_close.2.1 32 = .ok (.astore 4, 2) := by decide +kernel
theorem d_D_close_34 : decode m_D_close.2.1 34 = .ok (.iconst 0, 1) := by decide +kernel
theorem d_D_close_35 : decode m_D_close.2.1 35 = .ok (.istore 5, 2) := by decide +kernel
theorem d_D_close_37 : decode m_D_close.2.1 37 = .ok (.iload 5, 2) := by decide +kernel
theorem d_D_close_39 : decode m_D_close.2.1 39 = .ok (.aload 4, 2) := by decide +kernel
theorem d_D_close_41 : decode m_D_close.2.1 41 = .ok (.getfield 153, 3) := by decide +kernel
theorem d_D_close_44 : decode m_D_close.2.1 44 = .ok (.arraylength, 1) := by decide +kernel
theorem d_D_close_45 : decode m_D_close.2.1 45 = .ok (.if_icmp .ge 116, 3) := by decide +kernel
theorem d_D_close_48 : decode m_D_close.2.1 48 = .ok (.aload 4, 2) := by decide +kernel
theorem d_D_close_50 : decode m_D_close.2.1 50 = .ok (.getfield 153, 3) := by decide +kernel
theorem d_D_close_53 : decode m_D_close.2.1 53 = .ok (.iload 5, 2) := by decide +kernel
theorem d_D_close_55 : decode m_D_close.2.1 55 = .ok (.iaload, 1) := by decide +kernel
theorem d_D_close_56 : decode m_D_close.2.1 56 = .ok (.bipush 7, 2) := by decide +kernel
theorem d_D_close_58 : decode m_D_close.2.1 58 = .ok (.if_icmp .ge 6, 3) := by decide +kernel
theorem d_D_close_61 : decode m_D_close.2.1 61 = .ok (.goto 94, 3) := by decide +kernel
theorem d_D_close_64 : decode m_D_close.2.1 64 = .ok (.iconst 0, 1) := by decide +kernel
theorem d_D_close_65 : decode m_D_close.2.1 65 = .ok (.istore 6, 2) := by decide +kernel
theorem d_D_close_67 : decode m_D_close.2.1 67 = .ok (.iconst 0, 1) := by decide +kernel
theorem d_D_close_68 : decode m_D_close.2.1 68 = .ok (.istore 7, 2) := by decide +kernel
theorem d_D_close_70 : decode m_D_close.2.1 70 = .ok (.iload 7, 2) := by decide +kernel
theorem d_D_close_72 : decode m_D_close.2.1 72 = .ok (.bipush 7, 2) := by decide +kernel
theorem d_D_close_74 : decode m_D_close.2.1 74 = .ok (.if_icmp .ge 61, 3) := by decide +kernel
theorem d_D_close_77 : decode m_D_close.2.1 77 = .ok (.aload_n 1, 1) := by decide +kernel
theorem d_D_close_78 : decode m_D_close.2.1 78 = .ok (.iload_n 3, 1) := by decide +kernel
theorem d_D_close_79 : decode m_D_close.2.1 79 = .ok (.iload 5, 2) := by decide +kernel
theorem d_D_close_81 : decode m_D_close.2.1 81 = .ok (.iload 7, 2) := by decide +kernel
theorem d_D_close_83 : decode m_D_close.2.1 83 = .ok (.invokestatic 170, 3) := by decide +kernel
theorem d_D_close_86 : decode m_D_close.2.1 86 = .ok (.invokevirtual 179, 3) := by decide +kernel
theorem d_D_close_89 : decode m_D_close.2.1 89 = .ok (.ifCond .eq 40, 3) := by decide +kernel
theorem d_D_close_92 : decode m_D_close.2.1 92 = .ok (.iload 6, 2) := by decide +kernel
theorem d_D_close_94 : decode m_D_close.2.1 94 = .ok (.aload_n 0, 1) := by decide +kernel
theorem d_D_close_95 : decode m_D_close.2.1 95 = .ok (.aload 4, 2) := by decide +kernel
theorem d_D_close_97 : decode m_D_close.2.1 97 = .ok (.iload 5, 2) := by decide +kernel
theorem d_D_close_99 : decode m_D_close.2.1 99 = .ok (.iconst 1, 1) := by decide +kernel
theorem d_D_close_100 : decode m_D_close.2.1 100 = .ok (.iadd, 1) := by decide +kernel
theorem d_D_close_101 : decode m_D_close.2.1 101 = .ok (.invokevirtual 166, 3) := by decide +kernel
theorem d_D_close_104 : decode m_D_close.2.1 104 = .ok (.aload_n 0, 1) := by decide +kernel
theorem d_D_close_105 : decode m_D_close.2.1 105 = .ok (.aload 4, 2) := by decide +kernel
theorem d_D_close_107 : decode m_D_close.2.1 107 = .ok (.iload 5, 2) := by decide +kernel
theorem d_D_close_109 : decode m_D_close.2.1 109 = .ok (.iconst 1, 1) := by decide +kernel
theorem d_D_close_110 : decode m_D_close.2.1 110 = .ok (.iadd, 1) := by decide +kernel
theorem d_D_close_111 : decode m_D_close.2.1 111 = .ok (.invokevirtual 162, 3) := by decide +kernel
theorem d_D_close_114 : decode m_D_close.2.1 114 = .ok (.ifCond .eq 10, 3) := by decide +kernel
theorem d_D_close_117 : decode m_D_close.2.1 117 = .ok (.iconst 1, 1) := by decide +kernel
theorem d_D_close_118 : decode m_D_close.2.1 118 = .ok (.iload 7, 2) := by decide +kernel
theorem d_D_close_120 : decode m_D_close.2.1 120 = .ok (.ishl, 1) := by decide +kernel
theorem d_D_close_121 : decode m_D_close.2.1 121 = .ok (.goto 4, 3) := by decide +kernel
theorem d_D_close_124 : decode m_D_close.2.1 124 = .ok (.iconst 0, 1) := by decide +kernel
theorem d_D_close_125 : decode m_D_close.2.1 125 = .ok (.ior, 1) := by decide +kernel
theorem d_D_close_126 : decode m_D_close.2.1 126 = .ok (.ior, 1) := by decide +kernel
theorem d_D_close_127 : decode m_D_close.2.1 127 = .ok (.istore 6, 2) := by decide +kernel
theorem d_D_close_129 : decode m_D_close.2.1 129 = .ok (.iinc 7 1, 3) := by decide +kernel
theorem d_D_close_132 : decode m_D_close.2.1 132 = .ok (.goto (-62), 3) := by decide +kernel
theorem d_D_close_135 : decode m_D_close.2.1 135 = .ok (.aload_n 0, 1) := by decide +kernel
theorem d_D_close_136 : decode m_D_close.2.1 136 = .ok (.aload_n 1, 1) := by decide +kernel
theorem d_D_close_137 : decode m_D_close.2.1 137 = .ok (.aload 4, 2) := by decide +kernel
theorem d_D_close_139 : decode m_D_close.2.1 139 = .ok (.getfield 153, 3) := by decide +kernel
theorem d_D_close_142 : decode m_D_close.2.1 142 = .ok (.iload 5, 2) := by decide +kernel
theorem d_D_close_144 : decode m_D_close.2.1 144 = .ok (.iaload, 1) := by decide +kernel
theorem d_D_close_145 : decode m_D_close.2.1 145 = .ok (.iload 6, 2) := by decide +kernel
theorem d_D_close_147 : decode m_D_close.2.1 147 = .ok (.invokevirtual 182, 3) := by decide +kernel
theorem d_D_close_150 : decode m_D_close.2.1 150 = .ok (.ifCond .eq 5, 3) := by decide +kernel
theorem d_D_close_153 : decode m_D_close.2.1 153 = .ok (.iconst 1, 1) := by decide +kernel
theorem d_D_close_154 : decode m_D_close.2.1 154 = .ok (.istore_n 2, 1) := by decide +kernel
theorem d_D_close_155 : decode m_D_close.2.1 155 = .ok (.iinc 5 1, 3) := by decide +kernel
theorem d_D_close_158 : decode m_D_close.2.1 158 = .ok (.goto (-121), 3) := by decide +kernel
theorem d_D_close_161 : decode m_D_close.2.1 161 = .ok (.iinc 3 1, 3) := by decide +kernel
theorem d_D_close_164 : decode m_D_close.2.1 164 = .ok (.goto (-154), 3) := by decide +kernel
theorem d_D_close_167 : decode m_D_close.2.1 167 = .ok (.goto (-165), 3) := by decide +kernel
theorem d_D_close_170 : decode m_D_close.2.1 170 = .ok (.return_, 1) := by decide +kernel
theorem d_D_number_0 : decode m_D_number.2.1 0 = .ok (.iconst 0, 1) := by decide +kernel
theorem d_D_number_1 : decode m_D_number.2.1 1 = .ok (.istore_n 1, 1) := by decide +kernel
theorem d_D_number_2 : decode m_D_number.2.1 2 = .ok (.iload_n 1, 1) := by decide +kernel
theorem d_D_number_3 : decode m_D_number.2.1 3 = .ok (.aload_n 0, 1) := by decide +kernel
theorem d_D_number_4 : decode m_D_number.2.1 4 = .ok (.getfield 197, 3) := by decide +kernel
theorem d_D_number_7 : decode m_D_number.2.1 7 = .ok (.if_icmp .ge 30, 3) := by decide +kernel
theorem d_D_number_10 : decode m_D_number.2.1 10 = .ok (.aload_n 0, 1) := by decide +kernel
theorem d_D_number_11 : decode m_D_number.2.1 11 = .ok (.getfield 45, 3) := by decide +kernel
theorem d_D_number_14 : decode m_D_number.2.1 14 = .ok (.iload_n 1, 1) := by decide +kernel
theorem d_D_number_15 : decode m_D_number.2.1 15 = .ok (.invokevirtual 131, 3) := by decide +kernel
theorem d_D_number_18 : decode m_D_number.2.1 18 = .ok (.checkcast 171, 3) := by decide +kernel
theorem d_D_number_21 : decode m_D_number.2.1 21 = .ok (.aload_n 0, 1) := by decide +kernel
theorem d_D_number_22 : decode m_D_number.2.1 22 = .ok (.getfield 189, 3) := by decide +kernel
theorem d_D_number_25 : decode m_D_number.2.1 25 = .ok (.invokevirtual 204, 3) := by decide +kernel
theorem d_D_number_28 : decode m_D_number.2.1 28 = .ok (.ifCond .ne 9, 3) := by decide +kernel
theorem d_D_number_31 : decode m_D_number.2.1 31 = .ok (.iinc 1 1, 3) := by decide +kernel
theorem d_D_number_34 : decode m_D_number.2.1 34 = .ok (.goto (-32), 3) := by decide +kernel
theorem d_D_number_37 : decode m_D_number.2.1 37 = .ok (.iload_n 1, 1) := by decide +kernel
theorem d_D_number_38 : decode m_D_number.2.1 38 = .ok (.bipush 40, 2) := by decide +kernel
theorem d_D_number_40 : decode m_D_number.2.1 40 = .ok (.if_icmp .ne 5, 3) := by decide +kernel
theorem d_D_number_43 : decode m_D_number.2.1 43 = .ok (.iconst (-1), 1) := by decide +kernel
theorem d_D_number_44 : decode m_D_number.2.1 44 = .ok (.ireturn, 1) := by decide +kernel
theorem d_D_number_45 : decode m_D_number.2.1 45 = .ok (.iload_n 1, 1) := by decide +kernel
theorem d_D_number_46 : decode m_D_number.2.1 46 = .ok (.aload_n 0, 1) := by decide +kernel
theorem d_D_number_47 : decode m_D_number.2.1 47 = .ok (.getfield 197, 3) := by decide +kernel
theorem d_D_number_50 : decode m_D_number.2.1 50 = .ok (.if_icmp .ne 13, 3) := by decide +kernel
theorem d_D_number_53 : decode m_D_number.2.1 53 = .ok (.aload_n 0, 1) := by decide +kernel
theorem d_D_number_54 : decode m_D_number.2.1 54 = .ok (.dup, 1) := by decide +kernel
theorem d_D_number_55 : decode m_D_number.2.1 55 = .ok (.getfield 197, 3) := by decide +kernel
theorem d_D_number_58 : decode m_D_number.2.1 58 = .ok (.iconst 1, 1) := by decide +kernel
theorem d_D_number_59 : decode m_D_number.2.1 59 = .ok (.iadd, 1) := by decide +kernel
theorem d_D_number_60 : decode m_D_number.2.1 60 = .ok (.putfield 197, 3) := by decide +kernel
theorem d_D_number_63 : decode m_D_number.2.1 63 = .ok (.iload_n 1, 1) := by decide +kernel
theorem d_D_number_64 : decode m_D_number.2.1 64 = .ok (.ireturn, 1) := by decide +kernel
theorem d_S_alike_0 : decode m_S_alike.2.1 0 = .ok (.iconst 1, 1) := by decide +kernel
theorem d_S_alike_1 : decode m_S_alike.2.1 1 = .ok (.istore_n 2, 1) := by decide +kernel
theorem d_S_alike_2 : decode m_S_alike.2.1 2 = .ok (.iconst 0, 1) := by decide +kernel
theorem d_S_alike_3 : decode m_S_alike.2.1 3 = .ok (.istore_n 3, 1) := by decide +kernel
theorem d_S_alike_4 : decode m_S_alike.2.1 4 = .ok (.iload_n 3, 1) := by decide +kernel
theorem d_S_alike_5 : decode m_S_alike.2.1 5 = .ok (.bipush 7, 2) := by decide +kernel
theorem d_S_alike_7 : decode m_S_alike.2.1 7 = .ok (.if_icmp .ge 35, 3) := by decide +kernel
theorem d_S_alike_10 : decode m_S_alike.2.1 10 = .ok (.iload_n 2, 1) := by decide +kernel
theorem d_S_alike_11 : decode m_S_alike.2.1 11 = .ok (.ifCond .eq 31, 3) := by decide +kernel
theorem d_S_alike_14 : decode m_S_alike.2.1 14 = .ok (.aload_n 0, 1) := by decide +kernel
theorem d_S_alike_15 : decode m_S_alike.2.1 15 = .ok (.getfield 9, 3) := by decide +kernel
theorem d_S_alike_18 : decode m_S_alike.2.1 18 = .ok (.iload_n 3, 1) := by decide +kernel
theorem d_S_alike_19 : decode m_S_alike.2.1 19 = .ok (.laload, 1) := by decide +kernel
theorem d_S_alike_20 : decode m_S_alike.2.1 20 = .ok (.aload_n 1, 1) := by decide +kernel
theorem d_S_alike_21 : decode m_S_alike.2.1 21 = .ok (.getfield 9, 3) := by decide +kernel
theorem d_S_alike_24 : decode m_S_alike.2.1 24 = .ok (.iload_n 3, 1) := by decide +kernel
theorem d_S_alike_25 : decode m_S_alike.2.1 25 = .ok (.laload, 1) := by decide +kernel
theorem d_S_alike_26 : decode m_S_alike.2.1 26 = .ok (.lcmp, 1) := by decide +kernel
theorem d_S_alike_27 : decode m_S_alike.2.1 27 = .ok (.ifCond .ne 7, 3) := by decide +kernel
theorem d_S_alike_30 : decode m_S_alike.2.1 30 = .ok (.iconst 1, 1) := by decide +kernel
theorem d_S_alike_31 : decode m_S_alike.2.1 31 = .ok (.goto 4, 3) := by decide +kernel
theorem d_S_alike_34 : decode m_S_alike.2.1 34 = .ok (.iconst 0, 1) := by decide +kernel
theorem d_S_alike_35 : decode m_S_alike.2.1 35 = .ok (.istore_n 2, 1) := by decide +kernel
theorem d_S_alike_36 : decode m_S_alike.2.1 36 = .ok (.iinc 3 1, 3) := by decide +kernel
theorem d_S_alike_39 : decode m_S_alike.2.1 39 = .ok (.goto (-35), 3) := by decide +kernel
theorem d_S_alike_42 : decode m_S_alike.2.1 42 = .ok (.iload_n 2, 1) := by decide +kernel
theorem d_S_alike_43 : decode m_S_alike.2.1 43 = .ok (.ireturn, 1) := by decide +kernel
theorem d_D_next_0 : decode m_D_next.2.1 0 = .ok (.aload_n 0, 1) := by decide +kernel
theorem d_D_next_1 : decode m_D_next.2.1 1 = .ok (.invokevirtual 186, 3) := by decide +kernel
theorem d_D_next_4 : decode m_D_next.2.1 4 = .ok (.aload_n 0, 1) := by decide +kernel
theorem d_D_next_5 : decode m_D_next.2.1 5 = .ok (.getfield 189, 3) := by decide +kernel
theorem d_D_next_8 : decode m_D_next.2.1 8 = .ok (.astore_n 3, 1) := by decide +kernel
theorem d_D_next_9 : decode m_D_next.2.1 9 = .ok (.iconst 0, 1) := by decide +kernel
theorem d_D_next_10 : decode m_D_next.2.1 10 = .ok (.istore 4, 2) := by decide +kernel
theorem d_D_next_12 : decode m_D_next.2.1 12 = .ok (.iload 4, 2) := by decide +kernel
theorem d_D_next_14 : decode m_D_next.2.1 14 = .ok (.aload_n 0, 1) := by decide +kernel
theorem d_D_next_15 : decode m_D_next.2.1 15 = .ok (.getfield 16, 3) := by decide +kernel
theorem d_D_next_18 : decode m_D_next.2.1 18 = .ok (.invokevirtual 128, 3) := by decide +kernel
theorem d_D_next_21 : decode m_D_next.2.1 21 = .ok (.if_icmp .ge 106, 3) := by decide +kernel
theorem d_D_next_24 : decode m_D_next.2.1 24 = .ok (.aload_n 0, 1) := by decide +kernel
theorem d_D_next_25 : decode m_D_next.2.1 25 = .ok (.getfield 16, 3) := by decide +kernel
theorem d_D_next_28 : decode m_D_next.2.1 28 = .ok (.iload 4, 2) := by decide +kernel
theorem d_D_next_30 : decode m_D_next.2.1 30 = .ok (.invokevirtual 131, 3) := by decide +kernel
theorem d_D_next_33 : decode m_D_next.2.1 33 = .ok (.checkcast 123, 3) := by decide +kernel
theorem d_D_next_36 : decode m_D_next.2.1 36 = .ok (.astore 5, 2) := by decide +kernel
theorem d_D_next_38 : decode m_D_next.2.1 38 = .ok (.iconst 0, 1) := by decide +kernel
theorem d_D_next_39 : decode m_D_next.2.1 39 = .ok (.istore 6, 2) := by decide +kernel
theorem d_D_next_41 : decode m_D_next.2.1 41 = .ok (.iload 6, 2) := by decide +kernel
theorem d_D_next_43 : decode m_D_next.2.1 43 = .ok (.aload 5, 2) := by decide +kernel
theorem d_D_next_45 : decode m_D_next.2.1 45 = .ok (.getfield 153, 3) := by decide +kernel
theorem d_D_next_48 : decode m_D_next.2.1 48 = .ok (.arraylength, 1) := by decide +kernel
theorem d_D_next_49 : decode m_D_next.2.1 49 = .ok (.if_icmp .ge 72, 3) := by decide +kernel
theorem d_D_next_52 : decode m_D_next.2.1 52 = .ok (.aload 5, 2) := by decide +kernel
theorem d_D_next_54 : decode m_D_next.2.1 54 = .ok (.getfield 153, 3) := by decide +kernel
theorem d_D_next_57 : decode m_D_next.2.1 57 = .ok (.iload 6, 2) := by decide +kernel
theorem d_D_next_59 : decode m_D_next.2.1 59 = .ok (.iaload, 1) := by decide +kernel
theorem d_D_next_60 : decode m_D_next.2.1 60 = .ok (.iload_n 2, 1) := by decide +kernel
theorem d_D_next_61 : decode m_D_next.2.1 61 = .ok (.if_icmp .eq 6, 3) := by decide +kernel
theorem d_D_next_64 : decode m_D_next.2.1 64 = .ok (.goto 51, 3) := by decide +kernel
theorem d_D_next_67 : decode m_D_next.2.1 67 = .ok (.iconst 0, 1) := by decide +kernel
theorem d_D_next_68 : decode m_D_next.2.1 68 = .ok (.istore 7, 2) := by decide +kernel
theorem d_D_next_70 : decode m_D_next.2.1 70 = .ok (.iload 7, 2) := by decide +kernel
theorem d_D_next_72 : decode m_D_next.2.1 72 = .ok (.bipush 7, 2) := by decide +kernel
theorem d_D_next_74 : decode m_D_next.2.1 74 = .ok (.if_icmp .ge 41, 3) := by decide +kernel
theorem d_D_next_77 : decode m_D_next.2.1 77 = .ok (.aload_n 1, 1) := by decide +kernel
theorem d_D_next_78 : decode m_D_next.2.1 78 = .ok (.iload 4, 2) := by decide +kernel
theorem d_D_next_80 : decode m_D_next.2.1 80 = .ok (.iload 6, 2) := by decide +kernel
theorem d_D_next_82 : decode m_D_next.2.1 82 = .ok (.iload 7, 2) := by decide +kernel
theorem d_D_next_84 : decode m_D_next.2.1 84 = .ok (.invokestatic 170, 3) := by decide +kernel
theorem d_D_next_87 : decode m_D_next.2.1 87 = .ok (.invokevirtual 179, 3) := by decide +kernel
theorem d_D_next_90 : decode m_D_next.2.1 90 = .ok (.ifCond .eq 19, 3) := by decide +kernel
theorem d_D_next_93 : decode m_D_next.2.1 93 = .ok (.aload_n 3, 1) := by decide +kernel
theorem d_D_next_94 : decode m_D_next.2.1 94 = .ok (.iload 4, 2) := by decide +kernel
theorem d_D_next_96 : decode m_D_next.2.1 96 = .ok (.iload 6, 2) := by decide +kernel
theorem d_D_next_98 : decode m_D_next.2.1 98 = .ok (.iconst 1, 1) := by decide +kernel
theorem d_D_next_99 : decode m_D_next.2.1 99 = .ok (.iadd, 1) := by decide +kernel
theorem d_D_next_100 : decode m_D_next.2.1 100 = .ok (.iload 7, 2) := by decide +kernel
theorem d_D_next_102 : decode m_D_next.2.1 102 = .ok (.invokestatic 170, 3) := by decide +kernel
theorem d_D_next_105 : decode m_D_next.2.1 105 = .ok (.invokevirtual 176, 3) := by decide +kernel
theorem d_D_next_108 : decode m_D_next.2.1 108 = .ok (.pop, 1) := by decide +kernel
theorem d_D_next_109 : decode m_D_next.2.1 109 = .ok (.iinc 7 1, 3) := by decide +kernel
theorem d_D_next_112 : decode m_D_next.2.1 112 = .ok (.goto (-42), 3) := by decide +kernel
theorem d_D_next_115 : decode m_D_next.2.1 115 = .ok (.iinc 6 1, 3) := by decide +kernel
theorem d_D_next_118 : decode m_D_next.2.1 118 = .ok (.goto (-77), 3) := by decide +kernel
theorem d_D_next_121 : decode m_D_next.2.1 121 = .ok (.iinc 4 1, 3) := by decide +kernel
theorem d_D_next_124 : decode m_D_next.2.1 124 = .ok (.goto (-112), 3) := by decide +kernel
theorem d_D_next_127 : decode m_D_next.2.1 127 = .ok (.aload_n 0, 1) := by decide +kernel
theorem d_D_next_128 : decode m_D_next.2.1 128 = .ok (.aload_n 3, 1) := by decide +kernel
theorem d_D_next_129 : decode m_D_next.2.1 129 = .ok (.invokevirtual 193, 3) := by decide +kernel
theorem d_D_next_132 : decode m_D_next.2.1 132 = .ok (.return_, 1) := by decide +kernel
theorem d_S_isEmpty_0 : decode m_S_isEmpty.2.1 0 = .ok (.iconst 1, 1) := by decide +kernel
theorem d_S_isEmpty_1 : decode m_S_isEmpty.2.1 1 = .ok (.istore_n 1, 1) := by decide +kernel
theorem d_S_isEmpty_2 : decode m_S_isEmpty.2.1 2 = .ok (.iconst 0, 1) := by decide +kernel
theorem d_S_isEmpty_3 : decode m_S_isEmpty.2.1 3 = .ok (.istore_n 2, 1) := by decide +kernel
theorem d_S_isEmpty_4 : decode m_S_isEmpty.2.1 4 = .ok (.iload_n 2, 1) := by decide +kernel
theorem d_S_isEmpty_5 : decode m_S_isEmpty.2.1 5 = .ok (.bipush 7, 2) := by decide +kernel
theorem d_S_isEmpty_7 : decode m_S_isEmpty.2.1 7 = .ok (.if_icmp .ge 30, 3) := by decide +kernel
theorem d_S_isEmpty_10 : decode m_S_isEmpty.2.1 10 = .ok (.iload_n 1, 1) := by decide +kernel
theorem d_S_isEmpty_11 : decode m_S_isEmpty.2.1 11 = .ok (.ifCond .eq 18, 3) := by decide +kernel
theorem d_S_isEmpty_14 : decode m_S_isEmpty.2.1 14 = .ok (.aload_n 0, 1) := by decide +kernel
theorem d_S_isEmpty_15 : decode m_S_isEmpty.2.1 15 = .ok (.getfield 9, 3) := by decide +kernel
theorem d_S_isEmpty_18 : decode m_S_isEmpty.2.1 18 = .ok (.iload_n 2, 1) := by decide +kernel
theorem d_S_isEmpty_19 : decode m_S_isEmpty.2.1 19 = .ok (.laload, 1) := by decide +kernel
theorem d_S_isEmpty_20 : decode m_S_isEmpty.2.1 20 = .ok (.lconst 0, 1) := by decide +kernel
theorem d_S_isEmpty_21 : decode m_S_isEmpty.2.1 21 = .ok (.lcmp, 1) := by decide +kernel
theorem d_S_isEmpty_22 : decode m_S_isEmpty.2.1 22 = .ok (.ifCond .ne 7, 3) := by decide +kernel
theorem d_S_isEmpty_25 : decode m_S_isEmpty.2.1 25 = .ok (.iconst 1, 1) := by decide +kernel
theorem d_S_isEmpty_26 : decode m_S_isEmpty.2.1 26 = .ok (.goto 4, 3) := by decide +kernel
theorem d_S_isEmpty_29 : decode m_S_isEmpty.2.1 29 = .ok (.iconst 0, 1) := by decide +kernel
theorem d_S_isEmpty_30 : decode m_S_isEmpty.2.1 30 = .ok (.istore_n 1, 1) := by decide +kernel
theorem d_S_isEmpty_31 : decode m_S_isEmpty.2.1 31 = .ok (.iinc 2 1, 3) := by decide +kernel
theorem d_S_isEmpty_34 : decode m_S_isEmpty.2.1 34 = .ok (.goto (-30), 3) := by decide +kernel
theorem d_S_isEmpty_37 : decode m_S_isEmpty.2.1 37 = .ok (.iload_n 1, 1) := by decide +kernel
theorem d_S_isEmpty_38 : decode m_S_isEmpty.2.1 38 = .ok (.ireturn, 1) := by decide +kernel
theorem d_D_isClear_0 : decode m_D_isClear.2.1 0 = .ok (.aload_n 0, 1) := by decide +kernel
theorem d_D_isClear_1 : decode m_D_isClear.2.1 1 = .ok (.getfield 45, 3) := by decide +kernel
theorem d_D_isClear_4 : decode m_D_isClear.2.1 4 = .ok (.iload_n 1, 1) := by decide +kernel
theorem d_D_isClear_5 : decode m_D_isClear.2.1 5 = .ok (.invokevirtual 131, 3) := by decide +kernel
theorem d_D_isClear_8 : decode m_D_isClear.2.1 8 = .ok (.checkcast 171, 3) := by decide +kernel
theorem d_D_isClear_11 : decode m_D_isClear.2.1 11 = .ok (.astore_n 2, 1) := by decide +kernel
theorem d_D_isClear_12 : decode m_D_isClear.2.1 12 = .ok (.iconst 0, 1) := by decide +kernel
theorem d_D_isClear_13 : decode m_D_isClear.2.1 13 = .ok (.istore_n 3, 1) := by decide +kernel
theorem d_D_isClear_14 : decode m_D_isClear.2.1 14 = .ok (.iload_n 3, 1) := by decide +kernel
theorem d_D_isClear_15 : decode m_D_isClear.2.1 15 = .ok (.aload_n 0, 1) := by decide +kernel
theorem d_D_isClear_16 : decode m_D_isClear.2.1 16 = .ok (.getfield 16, 3) := by decide +kernel
theorem d_D_isClear_19 : decode m_D_isClear.2.1 19 = .ok (.invokevirtual 128, 3) := by decide +kernel
theorem d_D_isClear_22 : decode m_D_isClear.2.1 22 = .ok (.if_icmp .ge 97, 3) := by decide +kernel
theorem d_D_isClear_25 : decode m_D_isClear.2.1 25 = .ok (.aload_n 0, 1) := by decide +kernel
theorem d_D_isClear_26 : decode m_D_isClear.2.1 26 = .ok (.getfield 16, 3) := by decide +kernel
theorem d_D_isClear_29 : decode m_D_isClear.2.1 29 = .ok (.iload_n 3, 1) := by decide +kernel
theorem d_D_isClear_30 : decode m_D_isClear.2.1 30 = .ok (.invokevirtual 131, 3) := by decide +kernel
theorem d_D_isClear_33 : decode m_D_isClear.2.1 33 = .ok (.checkcast 123, 3) := by decide +kernel
theorem d_D_isClear_36 : decode m_D_isClear.2.1 36 = .ok (.getfield 153, 3) := by decide +kernel
theorem d_D_isClear_39 : decode m_D_isClear.2.1 39 = .ok (.arraylength, 1) := by decide +kernel
theorem d_D_isClear_40 : decode m_D_isClear.2.1 40 = .ok (.istore 4, 2) := by decide +kernel
theorem d_D_isClear_42 : decode m_D_isClear.2.1 42 = .ok (.iconst 0, 1) := by decide +kernel
theorem d_D_isClear_43 : decode m_D_isClear.2.1 43 = .ok (.istore 5, 2) := by decide +kernel
theorem d_D_isClear_45 : decode m_D_isClear.2.1 45 = .ok (.iload 5, 2) := by decide +kernel
theorem d_D_isClear_47 : decode m_D_isClear.2.1 47 = .ok (.bipush 7, 2) := by decide +kernel
theorem d_D_isClear_49 : decode m_D_isClear.2.1 49 = .ok (.if_icmp .ge 64, 3) := by decide +kernel
theorem d_D_isClear_52 : decode m_D_isClear.2.1 52 = .ok (.aload_n 2, 1) := by decide +kernel
theorem d_D_isClear_53 : decode m_D_isClear.2.1 53 = .ok (.iload_n 3, 1) := by decide +kernel
theorem d_D_isClear_54 : decode m_D_isClear.2.1 54 = .ok (.iload 4, 2) := by decide +kernel
theorem d_D_isClear_56 : decode m_D_isClear.2.1 56 = .ok (.iload 5, 2) := by decide +kernel
theorem d_D_isClear_58 : decode m_D_isClear.2.1 58 = .ok (.invokestatic 170, 3) := by decide +kernel
theorem d_D_isClear_61 : decode m_D_isClear.2.1 61 = .ok (.invokevirtual 179, 3) := by decide +kernel
theorem d_D_isClear_64 : decode m_D_isClear.2.1 64 = .ok (.ifCond .ne 6, 3) := by decide +kernel
theorem d_D_isClear_67 : decode m_D_isClear.2.1 67 = .ok (.goto 40, 3) := by decide +kernel
theorem d_D_isClear_70 : decode m_D_isClear.2.1 70 = .ok (.aload_n 0, 1) := by decide +kernel
theorem d_D_isClear_71 : decode m_D_isClear.2.1 71 = .ok (.getfield 50, 3) := by decide +kernel
theorem d_D_isClear_74 : decode m_D_isClear.2.1 74 = .ok (.iload_n 1, 1) := by decide +kernel
theorem d_D_isClear_75 : decode m_D_isClear.2.1 75 = .ok (.aaload, 1) := by decide +kernel
theorem d_D_isClear_76 : decode m_D_isClear.2.1 76 = .ok (.iload 5, 2) := by decide +kernel
theorem d_D_isClear_78 : decode m_D_isClear.2.1 78 = .ok (.saload, 1) := by decide +kernel
theorem d_D_isClear_79 : decode m_D_isClear.2.1 79 = .ok (.ifCond .eq 5, 3) := by decide +kernel
theorem d_D_isClear_82 : decode m_D_isClear.2.1 82 = .ok (.iconst 0, 1) := by decide +kernel
theorem d_D_isClear_83 : decode m_D_isClear.2.1 83 = .ok (.ireturn, 1) := by decide +kernel
theorem d_D_isClear_84 : decode m_D_isClear.2.1 84 = .ok (.aload_n 0, 1) := by decide +kernel
theorem d_D_isClear_85 : decode m_D_isClear.2.1 85 = .ok (.getfield 50, 3) := by decide +kernel
theorem d_D_isClear_88 : decode m_D_isClear.2.1 88 = .ok (.iload_n 1, 1) := by decide +kernel
theorem d_D_isClear_89 : decode m_D_isClear.2.1 89 = .ok (.aaload, 1) := by decide +kernel
theorem d_D_isClear_90 : decode m_D_isClear.2.1 90 = .ok (.iload 5, 2) := by decide +kernel
theorem d_D_isClear_92 : decode m_D_isClear.2.1 92 = .ok (.iload_n 3, 1) := by decide +kernel
theorem d_D_isClear_93 : decode m_D_isClear.2.1 93 = .ok (.ifCond .ne 9, 3) := by decide +kernel
theorem d_D_isClear_96 : decode m_D_isClear.2.1 96 = .ok (.sipush 1000, 3) := by decide +kernel
theorem d_D_isClear_99 : decode m_D_isClear.2.1 99 = .ok (.goto 6, 3) := by decide +kernel
theorem d_D_isClear_102 : decode m_D_isClear.2.1 102 = .ok (.iconst (-1), 1) := by decide +kernel
theorem d_D_isClear_103 : decode m_D_isClear.2.1 103 = .ok (.iload_n 3, 1) := by decide +kernel
theorem d_D_isClear_104 : decode m_D_isClear.2.1 104 = .ok (.isub, 1) := by decide +kernel
theorem d_D_isClear_105 : decode m_D_isClear.2.1 105 = .ok (.i2s, 1) := by decide +kernel
theorem d_D_isClear_106 : decode m_D_isClear.2.1 106 = .ok (.sastore, 1) := by decide +kernel
theorem d_D_isClear_107 : decode m_D_isClear.2.1 107 = .ok (.iinc 5 1, 3) := by decide +kernel
theorem d_D_isClear_110 : decode m_D_isClear.2.1 110 = .ok (.goto (-65), 3) := by decide +kernel
theorem d_D_isClear_113 : decode m_D_isClear.2.1 113 = .ok (.iinc 3 1, 3) := by decide +kernel
theorem d_D_isClear_116 : decode m_D_isClear.2.1 116 = .ok (.goto (-102), 3) := by decide +kernel
theorem d_D_isClear_119 : decode m_D_isClear.2.1 119 = .ok (.iconst 1, 1) := by decide +kernel
theorem d_D_isClear_120 : decode m_D_isClear.2.1 120 = .ok (.ireturn, 1) := by decide +kernel
