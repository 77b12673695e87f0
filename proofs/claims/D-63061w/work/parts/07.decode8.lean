/-! decode rows (printed by gen/names.py) -/
theorem d_Str_init2_0 : decode m_Str_init2.2.1 0 = .ok (.aload_n 0, 1) := by decide +kernel
theorem d_Str_init2_1 : decode m_Str_init2.2.1 1 = .ok (.invokespecial 1, 3) := by decide +kernel
theorem d_Str_init2_4 : decode m_Str_init2.2.1 4 = .ok (.aload_n 1, 1) := by decide +kernel
theorem d_Str_init2_5 : decode m_Str_init2.2.1 5 = .ok (.invokevirtual 552, 3) := by decide +kernel
theorem d_Str_init2_8 : decode m_Str_init2.2.1 8 = .ok (.astore_n 3, 1) := by decide +kernel
theorem d_Str_init2_9 : decode m_Str_init2.2.1 9 = .ok (.aload_n 1, 1) := by decide +kernel
theorem d_Str_init2_10 : decode m_Str_init2.2.1 10 = .ok (.invokevirtual 549, 3) := by decide +kernel
theorem d_Str_init2_13 : decode m_Str_init2.2.1 13 = .ok (.istore 4, 2) := by decide +kernel
theorem d_Str_init2_15 : decode m_Str_init2.2.1 15 = .ok (.aload_n 1, 1) := by decide +kernel
theorem d_Str_init2_16 : decode m_Str_init2.2.1 16 = .ok (.invokevirtual 1047, 3) := by decide +kernel
theorem d_Str_init2_19 : decode m_Str_init2.2.1 19 = .ok (.ifCond .eq 22, 3) := by decide +kernel
theorem d_Str_init2_22 : decode m_Str_init2.2.1 22 = .ok (.aload_n 0, 1) := by decide +kernel
theorem d_Str_init2_23 : decode m_Str_init2.2.1 23 = .ok (.iconst 0, 1) := by decide +kernel
theorem d_Str_init2_24 : decode m_Str_init2.2.1 24 = .ok (.putfield 15, 3) := by decide +kernel
theorem d_Str_init2_27 : decode m_Str_init2.2.1 27 = .ok (.aload_n 0, 1) := by decide +kernel
theorem d_Str_init2_28 : decode m_Str_init2.2.1 28 = .ok (.aload_n 3, 1) := by decide +kernel
theorem d_Str_init2_29 : decode m_Str_init2.2.1 29 = .ok (.iconst 0, 1) := by decide +kernel
theorem d_Str_init2_30 : decode m_Str_init2.2.1 30 = .ok (.iload 4, 2) := by decide +kernel
theorem d_Str_init2_32 : decode m_Str_init2.2.1 32 = .ok (.invokestatic 54, 3) := by decide +kernel
theorem d_Str_init2_35 : decode m_Str_init2.2.1 35 = .ok (.putfield 9, 3) := by decide +kernel
theorem d_Str_init2_38 : decode m_Str_init2.2.1 38 = .ok (.goto 59, 3) := by decide +kernel
theorem d_Str_init2_41 : decode m_Str_init2.2.1 41 = .ok (.getstatic 38, 3) := by decide +kernel
theorem d_Str_init2_44 : decode m_Str_init2.2.1 44 = .ok (.ifCond .eq 35, 3) := by decide +kernel
theorem d_Str_init2_47 : decode m_Str_init2.2.1 47 = .ok (.aload_n 1, 1) := by decide +kernel
theorem d_Str_init2_48 : decode m_Str_init2.2.1 48 = .ok (.getfield 1048, 3) := by decide +kernel
theorem d_Str_init2_51 : decode m_Str_init2.2.1 51 = .ok (.ifCond .eq 28, 3) := by decide +kernel
theorem d_Str_init2_54 : decode m_Str_init2.2.1 54 = .ok (.aload_n 0, 1) := by decide +kernel
theorem d_Str_init2_55 : decode m_Str_init2.2.1 55 = .ok (.aload_n 3, 1) := by decide +kernel
theorem d_Str_init2_56 : decode m_Str_init2.2.1 56 = .ok (.iconst 0, 1) := by decide +kernel
theorem d_Str_init2_57 : decode m_Str_init2.2.1 57 = .ok (.iload 4, 2) := by decide +kernel
theorem d_Str_init2_59 : decode m_Str_init2.2.1 59 = .ok (.invokestatic 1051, 3) := by decide +kernel
theorem d_Str_init2_62 : decode m_Str_init2.2.1 62 = .ok (.putfield 9, 3) := by decide +kernel
theorem d_Str_init2_65 : decode m_Str_init2.2.1 65 = .ok (.aload_n 0, 1) := by decide +kernel
theorem d_Str_init2_66 : decode m_Str_init2.2.1 66 = .ok (.aload_n 0, 1) := by decide +kernel
theorem d_Str_init2_67 : decode m_Str_init2.2.1 67 = .ok (.getfield 9, 3) := by decide +kernel
theorem d_Str_init2_70 : decode m_Str_init2.2.1 70 = .ok (.iload 4, 2) := by decide +kernel
theorem d_Str_init2_72 : decode m_Str_init2.2.1 72 = .ok (.invokestatic 47, 3) := by decide +kernel
theorem d_Str_init2_75 : decode m_Str_init2.2.1 75 = .ok (.putfield 15, 3) := by decide +kernel
theorem d_Str_init2_78 : decode m_Str_init2.2.1 78 = .ok (.return_, 1) := by decide +kernel
theorem d_Str_init2_79 : decode m_Str_init2.2.1 79 = .ok (.aload_n 0, 1) := by decide +kernel
theorem d_Str_init2_80 : decode m_Str_init2.2.1 80 = .ok (.iconst 1, 1) := by decide +kernel
theorem d_Str_init2_81 : decode m_Str_init2.2.1 81 = .ok (.putfield 15, 3) := by decide +kernel
theorem d_Str_init2_84 : decode m_Str_init2.2.1 84 = .ok (.aload_n 0, 1) := by decide +kernel
theorem d_Str_init2_85 : decode m_Str_init2.2.1 85 = .ok (.aload_n 3, 1) := by decide +kernel
theorem d_Str_init2_86 : decode m_Str_init2.2.1 86 = .ok (.iconst 0, 1) := by decide +kernel
theorem d_Str_init2_87 : decode m_Str_init2.2.1 87 = .ok (.iload 4, 2) := by decide +kernel
theorem d_Str_init2_89 : decode m_Str_init2.2.1 89 = .ok (.iconst 1, 1) := by decide +kernel
theorem d_Str_init2_90 : decode m_Str_init2.2.1 90 = .ok (.ishl, 1) := by decide +kernel
theorem d_Str_init2_91 : decode m_Str_init2.2.1 91 = .ok (.invokestatic 54, 3) := by decide +kernel
theorem d_Str_init2_94 : decode m_Str_init2.2.1 94 = .ok (.putfield 9, 3) := by decide +kernel
theorem d_Str_init2_97 : decode m_Str_init2.2.1 97 = .ok (.return_, 1) := by decide +kernel
theorem d_ASB_getValue_0 : decode m_ASB_getValue.2.1 0 = .ok (.aload_n 0, 1) := by decide +kernel
theorem d_ASB_getValue_1 : decode m_ASB_getValue.2.1 1 = .ok (.getfield 15, 3) := by decide +kernel
theorem d_ASB_getValue_4 : decode m_ASB_getValue.2.1 4 = .ok (.areturn, 1) := by decide +kernel
theorem d_Arr_copyOfRange_0 : decode m_Arr_copyOfRange.2.1 0 = .ok (.iload_n 1, 1) := by decide +kernel
theorem d_Arr_copyOfRange_1 : decode m_Arr_copyOfRange.2.1 1 = .ok (.ifCond .ne 9, 3) := by decide +kernel
theorem d_Arr_copyOfRange_4 : decode m_Arr_copyOfRange.2.1 4 = .ok (.iload_n 2, 1) := by decide +kernel
theorem d_Arr_copyOfRange_5 : decode m_Arr_copyOfRange.2.1 5 = .ok (.aload_n 0, 1) := by decide +kernel
theorem d_Arr_copyOfRange_6 : decode m_Arr_copyOfRange.2.1 6 = .ok (.arraylength, 1) := by decide +kernel
theorem d_Arr_copyOfRange_7 : decode m_Arr_copyOfRange.2.1 7 = .ok (.if_icmp .eq 10, 3) := by decide +kernel
theorem d_Arr_copyOfRange_10 : decode m_Arr_copyOfRange.2.1 10 = .ok (.aload_n 0, 1) := by decide +kernel
theorem d_Arr_copyOfRange_11 : decode m_Arr_copyOfRange.2.1 11 = .ok (.iload_n 1, 1) := by decide +kernel
theorem d_Arr_copyOfRange_12 : decode m_Arr_copyOfRange.2.1 12 = .ok (.iload_n 2, 1) := by decide +kernel
theorem d_Arr_copyOfRange_13 : decode m_Arr_copyOfRange.2.1 13 = .ok (.invokestatic 339, 3) := by decide +kernel
theorem d_Arr_copyOfRange_16 : decode m_Arr_copyOfRange.2.1 16 = .ok (.areturn, 1) := by decide +kernel
theorem d_Arr_copyOfRange_17 : decode m_Arr_copyOfRange.2.1 17 = .ok (.aload_n 0, 1) := by decide +kernel
theorem d_Arr_copyOfRange_18 : decode m_Arr_copyOfRange.2.1 18 = .ok (.invokevirtual 310, 3) := by decide +kernel
theorem d_Arr_copyOfRange_21 : decode m_Arr_copyOfRange.2.1 21 = .ok (.checkcast 311, 3) := by decide +kernel
theorem d_Arr_copyOfRange_24 : decode m_Arr_copyOfRange.2.1 24 = .ok (.areturn, 1) := by decide +kernel
theorem d_Arr_copyOfRangeByte_0 : decode m_Arr_copyOfRangeByte.2.1 0 = .ok (.iload_n 1, 1) := by decide +kernel
theorem d_Arr_copyOfRangeByte_1 : decode m_Arr_copyOfRangeByte.2.1 1 = .ok (.iload_n 2, 1) := by decide +kernel
theorem d_Arr_copyOfRangeByte_2 : decode m_Arr_copyOfRangeByte.2.1 2 = .ok (.invokestatic 343, 3) := by decide +kernel
theorem d_Arr_copyOfRangeByte_5 : decode m_Arr_copyOfRangeByte.2.1 5 = .ok (.iload_n 2, 1) := by decide +kernel
theorem d_Arr_copyOfRangeByte_6 : decode m_Arr_copyOfRangeByte.2.1 6 = .ok (.iload_n 1, 1) := by decide +kernel
theorem d_Arr_copyOfRangeByte_7 : decode m_Arr_copyOfRangeByte.2.1 7 = .ok (.isub, 1) := by decide +kernel
theorem d_Arr_copyOfRangeByte_8 : decode m_Arr_copyOfRangeByte.2.1 8 = .ok (.istore_n 3, 1) := by decide +kernel
theorem d_Arr_copyOfRangeByte_9 : decode m_Arr_copyOfRangeByte.2.1 9 = .ok (.iload_n 3, 1) := by decide +kernel
theorem d_Arr_copyOfRangeByte_10 : decode m_Arr_copyOfRangeByte.2.1 10 = .ok (.newarray .byte, 2) := by decide +kernel
theorem d_Arr_copyOfRangeByte_12 : decode m_Arr_copyOfRangeByte.2.1 12 = .ok (.astore 4, 2) := by decide +kernel
theorem d_Arr_copyOfRangeByte_14 : decode m_Arr_copyOfRangeByte.2.1 14 = .ok (.aload_n 0, 1) := by decide +kernel
theorem d_Arr_copyOfRangeByte_15 : decode m_Arr_copyOfRangeByte.2.1 15 = .ok (.iload_n 1, 1) := by decide +kernel
theorem d_Arr_copyOfRangeByte_16 : decode m_Arr_copyOfRangeByte.2.1 16 = .ok (.aload 4, 2) := by decide +kernel
theorem d_Arr_copyOfRangeByte_18 : decode m_Arr_copyOfRangeByte.2.1 18 = .ok (.iconst 0, 1) := by decide +kernel
theorem d_Arr_copyOfRangeByte_19 : decode m_Arr_copyOfRangeByte.2.1 19 = .ok (.aload_n 0, 1) := by decide +kernel
theorem d_Arr_copyOfRangeByte_20 : decode m_Arr_copyOfRangeByte.2.1 20 = .ok (.arraylength, 1) := by decide +kernel
theorem d_Arr_copyOfRangeByte_21 : decode m_Arr_copyOfRangeByte.2.1 21 = .ok (.iload_n 1, 1) := by decide +kernel
theorem d_Arr_copyOfRangeByte_22 : decode m_Arr_copyOfRangeByte.2.1 22 = .ok (.isub, 1) := by decide +kernel
theorem d_Arr_copyOfRangeByte_23 : decode m_Arr_copyOfRangeByte.2.1 23 = .ok (.iload_n 3, 1) := by decide +kernel
theorem d_Arr_copyOfRangeByte_24 : decode m_Arr_copyOfRangeByte.2.1 24 = .ok (.invokestatic 304, 3) := by decide +kernel
theorem d_Arr_copyOfRangeByte_27 : decode m_Arr_copyOfRangeByte.2.1 27 = .ok (.invokestatic 150, 3) := by decide +kernel
theorem d_Arr_copyOfRangeByte_30 : decode m_Arr_copyOfRangeByte.2.1 30 = .ok (.aload 4, 2) := by decide +kernel
theorem d_Arr_copyOfRangeByte_32 : decode m_Arr_copyOfRangeByte.2.1 32 = .ok (.areturn, 1) := by decide +kernel
theorem d_Arr_copyOf_0 : decode m_Arr_copyOf.2.1 0 = .ok (.iload_n 1, 1) := by decide +kernel
theorem d_Arr_copyOf_1 : decode m_Arr_copyOf.2.1 1 = .ok (.aload_n 0, 1) := by decide +kernel
theorem d_Arr_copyOf_2 : decode m_Arr_copyOf.2.1 2 = .ok (.arraylength, 1) := by decide +kernel
theorem d_Arr_copyOf_3 : decode m_Arr_copyOf.2.1 3 = .ok (.if_icmp .ne 11, 3) := by decide +kernel
theorem d_Arr_copyOf_6 : decode m_Arr_copyOf.2.1 6 = .ok (.aload_n 0, 1) := by decide +kernel
theorem d_Arr_copyOf_7 : decode m_Arr_copyOf.2.1 7 = .ok (.invokevirtual 310, 3) := by decide +kernel
theorem d_Arr_copyOf_10 : decode m_Arr_copyOf.2.1 10 = .ok (.checkcast 311, 3) := by decide +kernel
theorem d_Arr_copyOf_13 : decode m_Arr_copyOf.2.1 13 = .ok (.areturn, 1) := by decide +kernel
theorem d_Arr_copyOf_14 : decode m_Arr_copyOf.2.1 14 = .ok (.iload_n 1, 1) := by decide +kernel
theorem d_Arr_copyOf_15 : decode m_Arr_copyOf.2.1 15 = .ok (.newarray .byte, 2) := by decide +kernel
theorem d_Arr_copyOf_17 : decode m_Arr_copyOf.2.1 17 = .ok (.astore_n 2, 1) := by decide +kernel
theorem d_Arr_copyOf_18 : decode m_Arr_copyOf.2.1 18 = .ok (.aload_n 0, 1) := by decide +kernel
theorem d_Arr_copyOf_19 : decode m_Arr_copyOf.2.1 19 = .ok (.iconst 0, 1) := by decide +kernel
theorem d_Arr_copyOf_20 : decode m_Arr_copyOf.2.1 20 = .ok (.aload_n 2, 1) := by decide +kernel
theorem d_Arr_copyOf_21 : decode m_Arr_copyOf.2.1 21 = .ok (.iconst 0, 1) := by decide +kernel
theorem d_Arr_copyOf_22 : decode m_Arr_copyOf.2.1 22 = .ok (.aload_n 0, 1) := by decide +kernel
theorem d_Arr_copyOf_23 : decode m_Arr_copyOf.2.1 23 = .ok (.arraylength, 1) := by decide +kernel
theorem d_Arr_copyOf_24 : decode m_Arr_copyOf.2.1 24 = .ok (.iload_n 1, 1) := by decide +kernel
theorem d_Arr_copyOf_25 : decode m_Arr_copyOf.2.1 25 = .ok (.invokestatic 304, 3) := by decide +kernel
theorem d_Arr_copyOf_28 : decode m_Arr_copyOf.2.1 28 = .ok (.invokestatic 150, 3) := by decide +kernel
theorem d_Arr_copyOf_31 : decode m_Arr_copyOf.2.1 31 = .ok (.aload_n 2, 1) := by decide +kernel
theorem d_Arr_copyOf_32 : decode m_Arr_copyOf.2.1 32 = .ok (.areturn, 1) := by decide +kernel
theorem d_SB_setLength_0 : decode m_SB_setLength.2.1 0 = .ok (.aload_n 0, 1) := by decide +kernel
theorem d_SB_setLength_1 : decode m_SB_setLength.2.1 1 = .ok (.iload_n 1, 1) := by decide +kernel
theorem d_SB_setLength_2 : decode m_SB_setLength.2.1 2 = .ok (.invokespecial 333, 3) := by decide +kernel
theorem d_SB_setLength_5 : decode m_SB_setLength.2.1 5 = .ok (.return_, 1) := by decide +kernel
theorem d_ASB_setLength_0 : decode m_ASB_setLength.2.1 0 = .ok (.iload_n 1, 1) := by decide +kernel
theorem d_ASB_setLength_1 : decode m_ASB_setLength.2.1 1 = .ok (.ifCond .ge 12, 3) := by decide +kernel
theorem d_ASB_setLength_4 : decode m_ASB_setLength.2.1 4 = .ok (.new 129, 3) := by decide +kernel
theorem d_ASB_setLength_7 : decode m_ASB_setLength.2.1 7 = .ok (.dup, 1) := by decide +kernel
theorem d_ASB_setLength_8 : decode m_ASB_setLength.2.1 8 = .ok (.iload_n 1, 1) := by decide +kernel
theorem d_ASB_setLength_9 : decode m_ASB_setLength.2.1 9 = .ok (.invokespecial 131, 3) := by decide +kernel
theorem d_ASB_setLength_12 : decode m_ASB_setLength.2.1 12 = .ok (.athrow, 1) := by decide +kernel
theorem d_ASB_setLength_13 : decode m_ASB_setLength.2.1 13 = .ok (.aload_n 0, 1) := by decide +kernel
theorem d_ASB_setLength_14 : decode m_ASB_setLength.2.1 14 = .ok (.iload_n 1, 1) := by decide +kernel
theorem d_ASB_setLength_15 : decode m_ASB_setLength.2.1 15 = .ok (.invokevirtual 100, 3) := by decide +kernel
theorem d_ASB_setLength_18 : decode m_ASB_setLength.2.1 18 = .ok (.aload_n 0, 1) := by decide +kernel
theorem d_ASB_setLength_19 : decode m_ASB_setLength.2.1 19 = .ok (.getfield 79, 3) := by decide +kernel
theorem d_ASB_setLength_22 : decode m_ASB_setLength.2.1 22 = .ok (.iload_n 1, 1) := by decide +kernel
theorem d_ASB_setLength_23 : decode m_ASB_setLength.2.1 23 = .ok (.if_icmp .ge 40, 3) := by decide +kernel
theorem d_ASB_setLength_26 : decode m_ASB_setLength.2.1 26 = .ok (.aload_n 0, 1) := by decide +kernel
theorem d_ASB_setLength_27 : decode m_ASB_setLength.2.1 27 = .ok (.invokevirtual 83, 3) := by decide +kernel
theorem d_ASB_setLength_30 : decode m_ASB_setLength.2.1 30 = .ok (.ifCond .eq 18, 3) := by decide +kernel
theorem d_ASB_setLength_33 : decode m_ASB_setLength.2.1 33 = .ok (.aload_n 0, 1) := by decide +kernel
theorem d_ASB_setLength_34 : decode m_ASB_setLength.2.1 34 = .ok (.getfield 15, 3) := by decide +kernel
theorem d_ASB_setLength_37 : decode m_ASB_setLength.2.1 37 = .ok (.aload_n 0, 1) := by decide +kernel
theorem d_ASB_setLength_38 : decode m_ASB_setLength.2.1 38 = .ok (.getfield 79, 3) := by decide +kernel
theorem d_ASB_setLength_41 : decode m_ASB_setLength.2.1 41 = .ok (.iload_n 1, 1) := by decide +kernel
theorem d_ASB_setLength_42 : decode m_ASB_setLength.2.1 42 = .ok (.invokestatic 133, 3) := by decide +kernel
theorem d_ASB_setLength_45 : decode m_ASB_setLength.2.1 45 = .ok (.goto 31, 3) := by decide +kernel
theorem d_ASB_setLength_48 : decode m_ASB_setLength.2.1 48 = .ok (.aload_n 0, 1) := by decide +kernel
theorem d_ASB_setLength_49 : decode m_ASB_setLength.2.1 49 = .ok (.getfield 15, 3) := by decide +kernel
theorem d_ASB_setLength_52 : decode m_ASB_setLength.2.1 52 = .ok (.aload_n 0, 1) := by decide +kernel
theorem d_ASB_setLength_53 : decode m_ASB_setLength.2.1 53 = .ok (.getfield 79, 3) := by decide +kernel
theorem d_ASB_setLength_56 : decode m_ASB_setLength.2.1 56 = .ok (.iload_n 1, 1) := by decide +kernel
theorem d_ASB_setLength_57 : decode m_ASB_setLength.2.1 57 = .ok (.invokestatic 137, 3) := by decide +kernel
theorem d_ASB_setLength_60 : decode m_ASB_setLength.2.1 60 = .ok (.goto 16, 3) := by decide +kernel
theorem d_ASB_setLength_63 : decode m_ASB_setLength.2.1 63 = .ok (.aload_n 0, 1) := by decide +kernel
theorem d_ASB_setLength_64 : decode m_ASB_setLength.2.1 64 = .ok (.getfield 79, 3) := by decide +kernel
theorem d_ASB_setLength_67 : decode m_ASB_setLength.2.1 67 = .ok (.iload_n 1, 1) := by decide +kernel
theorem d_ASB_setLength_68 : decode m_ASB_setLength.2.1 68 = .ok (.if_icmp .le 8, 3) := by decide +kernel
theorem d_ASB_setLength_71 : decode m_ASB_setLength.2.1 71 = .ok (.aload_n 0, 1) := by decide +kernel
theorem d_ASB_setLength_72 : decode m_ASB_setLength.2.1 72 = .ok (.iconst 1, 1) := by decide +kernel
theorem d_ASB_setLength_73 : decode m_ASB_setLength.2.1 73 = .ok (.putfield 73, 3) := by decide +kernel
theorem d_ASB_setLength_76 : decode m_ASB_setLength.2.1 76 = .ok (.aload_n 0, 1) := by decide +kernel
theorem d_ASB_setLength_77 : decode m_ASB_setLength.2.1 77 = .ok (.iload_n 1, 1) := by decide +kernel
theorem d_ASB_setLength_78 : decode m_ASB_setLength.2.1 78 = .ok (.putfield 79, 3) := by decide +kernel
theorem d_ASB_setLength_81 : decode m_ASB_setLength.2.1 81 = .ok (.return_, 1) := by decide +kernel
theorem d_Str_length_0 : decode m_Str_length.2.1 0 = .ok (.aload_n 0, 1) := by decide +kernel
theorem d_Str_length_1 : decode m_Str_length.2.1 1 = .ok (.getfield 9, 3) := by decide +kernel
theorem d_Str_length_4 : decode m_Str_length.2.1 4 = .ok (.arraylength, 1) := by decide +kernel
theorem d_Str_length_5 : decode m_Str_length.2.1 5 = .ok (.aload_n 0, 1) := by decide +kernel
theorem d_Str_length_6 : decode m_Str_length.2.1 6 = .ok (.invokevirtual 335, 3) := by decide +kernel
theorem d_Str_length_9 : decode m_Str_length.2.1 9 = .ok (.ishr, 1) := by decide +kernel
theorem d_Str_length_10 : decode m_Str_length.2.1 10 = .ok (.ireturn, 1) := by decide +kernel
theorem d_Str_coder_0 : decode m_Str_coder.2.1 0 = .ok (.getstatic 38, 3) := by decide +kernel
theorem d_Str_coder_3 : decode m_Str_coder.2.1 3 = .ok (.ifCond .eq 10, 3) := by decide +kernel
theorem d_Str_coder_6 : decode m_Str_coder.2.1 6 = .ok (.aload_n 0, 1) := by decide +kernel
theorem d_Str_coder_7 : decode m_Str_coder.2.1 7 = .ok (.getfield 15, 3) := by decide +kernel
theorem d_Str_coder_10 : decode m_Str_coder.2.1 10 = .ok (.goto 4, 3) := by decide +kernel
theorem d_Str_coder_13 : decode m_Str_coder.2.1 13 = .ok (.iconst 1, 1) := by decide +kernel
theorem d_Str_coder_14 : decode m_Str_coder.2.1 14 = .ok (.ireturn, 1) := by decide +kernel
theorem d_Str_charAt_0 : decode m_Str_charAt.2.1 0 = .ok (.aload_n 0, 1) := by decide +kernel
theorem d_Str_charAt_1 : decode m_Str_charAt.2.1 1 = .ok (.invokevirtual 492, 3) := by decide +kernel
theorem d_Str_charAt_4 : decode m_Str_charAt.2.1 4 = .ok (.ifCond .eq 12, 3) := by decide +kernel
theorem d_Str_charAt_7 : decode m_Str_charAt.2.1 7 = .ok (.aload_n 0, 1) := by decide +kernel
theorem d_Str_charAt_8 : decode m_Str_charAt.2.1 8 = .ok (.getfield 9, 3) := by decide +kernel
theorem d_Str_charAt_11 : decode m_Str_charAt.2.1 11 = .ok (.iload_n 1, 1) := by decide +kernel
theorem d_Str_charAt_12 : decode m_Str_charAt.2.1 12 = .ok (.invokestatic 495, 3) := by decide +kernel
theorem d_Str_charAt_15 : decode m_Str_charAt.2.1 15 = .ok (.ireturn, 1) := by decide +kernel
theorem d_Str_charAt_16 : decode m_Str_charAt.2.1 16 = .ok (.aload_n 0, 1) := by decide +kernel
theorem d_Str_charAt_17 : decode m_Str_charAt.2.1 17 = .ok (.getfield 9, 3) := by decide +kernel
theorem d_Str_charAt_20 : decode m_Str_charAt.2.1 20 = .ok (.iload_n 1, 1) := by decide +kernel
theorem d_Str_charAt_21 : decode m_Str_charAt.2.1 21 = .ok (.invokestatic 498, 3) := by decide +kernel
theorem d_Str_charAt_24 : decode m_Str_charAt.2.1 24 = .ok (.ireturn, 1) := by decide +kernel
theorem d_Str_isLatin1_0 : decode m_Str_isLatin1.2.1 0 = .ok (.getstatic 38, 3) := by decide +kernel
theorem d_Str_isLatin1_3 : decode m_Str_isLatin1.2.1 3 = .ok (.ifCond .eq 14, 3) := by decide +kernel
theorem d_Str_isLatin1_6 : decode m_Str_isLatin1.2.1 6 = .ok (.aload_n 0, 1) := by decide +kernel
theorem d_Str_isLatin1_7 : decode m_Str_isLatin1.2.1 7 = .ok (.getfield 15, 3) := by decide +kernel
theorem d_Str_isLatin1_10 : decode m_Str_isLatin1.2.1 10 = .ok (.ifCond .ne 7, 3) := by decide +kernel
theorem d_Str_isLatin1_13 : decode m_Str_isLatin1.2.1 13 = .ok (.iconst 1, 1) := by decide +kernel
theorem d_Str_isLatin1_14 : decode m_Str_isLatin1.2.1 14 = .ok (.goto 4, 3) := by decide +kernel
theorem d_Str_isLatin1_17 : decode m_Str_isLatin1.2.1 17 = .ok (.iconst 0, 1) := by decide +kernel
theorem d_Str_isLatin1_18 : decode m_Str_isLatin1.2.1 18 = .ok (.ireturn, 1) := by decide +kernel
theorem d_L1_charAt_0 : decode m_L1_charAt.2.1 0 = .ok (.iload_n 1, 1) := by decide +kernel
theorem d_L1_charAt_1 : decode m_L1_charAt.2.1 1 = .ok (.aload_n 0, 1) := by decide +kernel
theorem d_L1_charAt_2 : decode m_L1_charAt.2.1 2 = .ok (.arraylength, 1) := by decide +kernel
theorem d_L1_charAt_3 : decode m_L1_charAt.2.1 3 = .ok (.invokestatic 9, 3) := by decide +kernel
theorem d_L1_charAt_6 : decode m_L1_charAt.2.1 6 = .ok (.aload_n 0, 1) := by decide +kernel
theorem d_L1_charAt_7 : decode m_L1_charAt.2.1 7 = .ok (.iload_n 1, 1) := by decide +kernel
theorem d_L1_charAt_8 : decode m_L1_charAt.2.1 8 = .ok (.baload, 1) := by decide +kernel
theorem d_L1_charAt_9 : decode m_L1_charAt.2.1 9 = .ok (.sipush 255, 3) := by decide +kernel
theorem d_L1_charAt_12 : decode m_L1_charAt.2.1 12 = .ok (.iand, 1) := by decide +kernel
theorem d_L1_charAt_13 : decode m_L1_charAt.2.1 13 = .ok (.i2c, 1) := by decide +kernel
theorem d_L1_charAt_14 : decode m_L1_charAt.2.1 14 = .ok (.ireturn, 1) := by decide +kernel
theorem d_Str_checkIndex_0 : decode m_Str_checkIndex.2.1 0 = .ok (.iload_n 0, 1) := by decide +kernel
theorem d_Str_checkIndex_1 : decode m_Str_checkIndex.2.1 1 = .ok (.iload_n 1, 1) := by decide +kernel
theorem d_Str_checkIndex_2 : decode m_Str_checkIndex.2.1 2 = .ok (.getstatic 1053, 3) := by decide +kernel
theorem d_Str_checkIndex_5 : decode m_Str_checkIndex.2.1 5 = .ok (.invokestatic 1059, 3) := by decide +kernel
theorem d_Str_checkIndex_8 : decode m_Str_checkIndex.2.1 8 = .ok (.pop, 1) := by decide +kernel
theorem d_Str_checkIndex_9 : decode m_Str_checkIndex.2.1 9 = .ok (.return_, 1) := by decide +kernel
theorem d_IAE_init2_0 : decode m_IAE_init2.2.1 0 = .ok (.aload_n 0, 1) := by decide +kernel
theorem d_IAE_init2_1 : decode m_IAE_init2.2.1 1 = .ok (.invokespecial 1, 3) := by decide +kernel
theorem d_IAE_init2_4 : decode m_IAE_init2.2.1 4 = .ok (.return_, 1) := by decide +kernel
theorem d_RTE_init2_0 : decode m_RTE_init2.2.1 0 = .ok (.aload_n 0, 1) := by decide +kernel
theorem d_RTE_init2_1 : decode m_RTE_init2.2.1 1 = .ok (.invokespecial 1, 3) := by decide +kernel
theorem d_RTE_init2_4 : decode m_RTE_init2.2.1 4 = .ok (.return_, 1) := by decide +kernel
theorem d_Exc_init2_0 : decode m_Exc_init2.2.1 0 = .ok (.aload_n 0, 1) := by decide +kernel
theorem d_Exc_init2_1 : decode m_Exc_init2.2.1 1 = .ok (.invokespecial 1, 3) := by decide +kernel
theorem d_Exc_init2_4 : decode m_Exc_init2.2.1 4 = .ok (.return_, 1) := by decide +kernel
theorem d_ISE_init_0 : decode m_ISE_init.2.1 0 = .ok (.aload_n 0, 1) := by decide +kernel
theorem d_ISE_init_1 : decode m_ISE_init.2.1 1 = .ok (.invokespecial 1, 3) := by decide +kernel
theorem d_ISE_init_4 : decode m_ISE_init.2.1 4 = .ok (.return_, 1) := by decide +kernel
theorem d_UOE_init_0 : decode m_UOE_init.2.1 0 = .ok (.aload_n 0, 1) := by decide +kernel
theorem d_UOE_init_1 : decode m_UOE_init.2.1 1 = .ok (.invokespecial 1, 3) := by decide +kernel
theorem d_UOE_init_4 : decode m_UOE_init.2.1 4 = .ok (.return_, 1) := by decide +kernel
theorem d_NSE_init_0 : decode m_NSE_init.2.1 0 = .ok (.aload_n 0, 1) := by decide +kernel
theorem d_NSE_init_1 : decode m_NSE_init.2.1 1 = .ok (.invokespecial 1, 3) := by decide +kernel
theorem d_NSE_init_4 : decode m_NSE_init.2.1 4 = .ok (.return_, 1) := by decide +kernel
theorem d_Thr_init_0 : decode m_Thr_init.2.1 0 = .ok (.aload_n 0, 1) := by decide +kernel
theorem d_Thr_init_1 : decode m_Thr_init.2.1 1 = .ok (.invokespecial 1, 3) := by decide +kernel
theorem d_Thr_init_4 : decode m_Thr_init.2.1 4 = .ok (.aload_n 0, 1) := by decide +kernel
theorem d_Thr_init_5 : decode m_Thr_init.2.1 5 = .ok (.aload_n 0, 1) := by decide +kernel
theorem d_Thr_init_6 : decode m_Thr_init.2.1 6 = .ok (.putfield 7, 3) := by decide +kernel
theorem d_Thr_init_9 : decode m_Thr_init.2.1 9 = .ok (.aload_n 0, 1) := by decide +kernel
theorem d_Thr_init_10 : decode m_Thr_init.2.1 10 = .ok (.getstatic 13, 3) := by decide +kernel
theorem d_Thr_init_13 : decode m_Thr_init.2.1 13 = .ok (.putfield 17, 3) := by decide +kernel
theorem d_Thr_init_16 : decode m_Thr_init.2.1 16 = .ok (.aload_n 0, 1) := by decide +kernel
theorem d_Thr_init_17 : decode m_Thr_init.2.1 17 = .ok (.getstatic 20, 3) := by decide +kernel
theorem d_Thr_init_20 : decode m_Thr_init.2.1 20 = .ok (.putfield 24, 3) := by decide +kernel
theorem d_Thr_init_23 : decode m_Thr_init.2.1 23 = .ok (.aload_n 0, 1) := by decide +kernel
theorem d_Thr_init_24 : decode m_Thr_init.2.1 24 = .ok (.invokevirtual 27, 3) := by decide +kernel
theorem d_Thr_init_27 : decode m_Thr_init.2.1 27 = .ok (.pop, 1) := by decide +kernel
theorem d_Thr_init_28 : decode m_Thr_init.2.1 28 = .ok (.return_, 1) := by decide +kernel
