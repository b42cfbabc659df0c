set_option maxRecDepth 100000
theorem dX1_init_0 : decode cX1_init 0 = .ok (.aload_n 0, 1) := by decide +kernel
theorem dX1_init_1 : decode cX1_init 1 = .ok (.invokespecial 1, 3) := by decide +kernel
theorem dX1_init_4 : decode cX1_init 4 = .ok (.aload_n 0, 1) := by decide +kernel
theorem dX1_init_5 : decode cX1_init 5 = .ok (.new 7, 3) := by decide +kernel
theorem dX1_init_8 : decode cX1_init 8 = .ok (.dup, 1) := by decide +kernel
theorem dX1_init_9 : decode cX1_init 9 = .ok (.invokespecial 9, 3) := by decide +kernel
theorem dX1_init_12 : decode cX1_init 12 = .ok (.putfield 10, 3) := by decide +kernel
theorem dX1_init_15 : decode cX1_init 15 = .ok (.aload_n 0, 1) := by decide +kernel
theorem dX1_init_16 : decode cX1_init 16 = .ok (.new 7, 3) := by decide +kernel
theorem dX1_init_19 : decode cX1_init 19 = .ok (.dup, 1) := by decide +kernel
theorem dX1_init_20 : decode cX1_init 20 = .ok (.invokespecial 9, 3) := by decide +kernel
theorem dX1_init_23 : decode cX1_init 23 = .ok (.putfield 16, 3) := by decide +kernel
theorem dX1_init_26 : decode cX1_init 26 = .ok (.aload_n 0, 1) := by decide +kernel
theorem dX1_init_27 : decode cX1_init 27 = .ok (.iconst 4, 1) := by decide +kernel
theorem dX1_init_28 : decode cX1_init 28 = .ok (.newarray .int, 2) := by decide +kernel
theorem dX1_init_30 : decode cX1_init 30 = .ok (.putfield 19, 3) := by decide +kernel
theorem dX1_init_33 : decode cX1_init 33 = .ok (.aload_n 0, 1) := by decide +kernel
theorem dX1_init_34 : decode cX1_init 34 = .ok (.iconst 4, 1) := by decide +kernel
theorem dX1_init_35 : decode cX1_init 35 = .ok (.newarray .int, 2) := by decide +kernel
theorem dX1_init_37 : decode cX1_init 37 = .ok (.putfield 23, 3) := by decide +kernel
theorem dX1_init_40 : decode cX1_init 40 = .ok (.aload_n 0, 1) := by decide +kernel
theorem dX1_init_41 : decode cX1_init 41 = .ok (.iconst 4, 1) := by decide +kernel
theorem dX1_init_42 : decode cX1_init 42 = .ok (.newarray .int, 2) := by decide +kernel
theorem dX1_init_44 : decode cX1_init 44 = .ok (.putfield 26, 3) := by decide +kernel
theorem dX1_init_47 : decode cX1_init 47 = .ok (.aload_n 0, 1) := by decide +kernel
theorem dX1_init_48 : decode cX1_init 48 = .ok (.iconst 4, 1) := by decide +kernel
theorem dX1_init_49 : decode cX1_init 49 = .ok (.iconst 4, 1) := by decide +kernel
theorem dX1_init_50 : decode cX1_init 50 = .ok (.multianewarray 29 2, 4) := by decide +kernel
theorem dX1_init_54 : decode cX1_init 54 = .ok (.putfield 31, 3) := by decide +kernel
theorem dX1_init_57 : decode cX1_init 57 = .ok (.aload_n 0, 1) := by decide +kernel
theorem dX1_init_58 : decode cX1_init 58 = .ok (.iconst 3, 1) := by decide +kernel
theorem dX1_init_59 : decode cX1_init 59 = .ok (.anewarray 34, 3) := by decide +kernel
theorem dX1_init_62 : decode cX1_init 62 = .ok (.dup, 1) := by decide +kernel
theorem dX1_init_63 : decode cX1_init 63 = .ok (.iconst 0, 1) := by decide +kernel
theorem dX1_init_64 : decode cX1_init 64 = .ok (.new 36, 3) := by decide +kernel
theorem dX1_init_67 : decode cX1_init 67 = .ok (.dup, 1) := by decide +kernel
theorem dX1_init_68 : decode cX1_init 68 = .ok (.invokespecial 38, 3) := by decide +kernel
theorem dX1_init_71 : decode cX1_init 71 = .ok (.aastore, 1) := by decide +kernel
theorem dX1_init_72 : decode cX1_init 72 = .ok (.dup, 1) := by decide +kernel
theorem dX1_init_73 : decode cX1_init 73 = .ok (.iconst 1, 1) := by decide +kernel
theorem dX1_init_74 : decode cX1_init 74 = .ok (.new 39, 3) := by decide +kernel
theorem dX1_init_77 : decode cX1_init 77 = .ok (.dup, 1) := by decide +kernel
theorem dX1_init_78 : decode cX1_init 78 = .ok (.invokespecial 41, 3) := by decide +kernel
theorem dX1_init_81 : decode cX1_init 81 = .ok (.aastore, 1) := by decide +kernel
theorem dX1_init_82 : decode cX1_init 82 = .ok (.dup, 1) := by decide +kernel
theorem dX1_init_83 : decode cX1_init 83 = .ok (.iconst 2, 1) := by decide +kernel
theorem dX1_init_84 : decode cX1_init 84 = .ok (.new 42, 3) := by decide +kernel
theorem dX1_init_87 : decode cX1_init 87 = .ok (.dup, 1) := by decide +kernel
theorem dX1_init_88 : decode cX1_init 88 = .ok (.invokespecial 44, 3) := by decide +kernel
theorem dX1_init_91 : decode cX1_init 91 = .ok (.aastore, 1) := by decide +kernel
theorem dX1_init_92 : decode cX1_init 92 = .ok (.putfield 45, 3) := by decide +kernel
theorem dX1_init_95 : decode cX1_init 95 = .ok (.return_, 1) := by decide +kernel
theorem dX1_begin_0 : decode cX1_begin 0 = .ok (.iload_n 2, 1) := by decide +kernel
theorem dX1_begin_1 : decode cX1_begin 1 = .ok (.iconst 1, 1) := by decide +kernel
theorem dX1_begin_2 : decode cX1_begin 2 = .ok (.iconst 3, 1) := by decide +kernel
theorem dX1_begin_3 : decode cX1_begin 3 = .ok (.invokestatic 70, 3) := by decide +kernel
theorem dX1_begin_6 : decode cX1_begin 6 = .ok (.ifCond .eq 27, 3) := by decide +kernel
theorem dX1_begin_9 : decode cX1_begin 9 = .ok (.iload_n 3, 1) := by decide +kernel
theorem dX1_begin_10 : decode cX1_begin 10 = .ok (.iconst 1, 1) := by decide +kernel
theorem dX1_begin_11 : decode cX1_begin 11 = .ok (.iconst 4, 1) := by decide +kernel
theorem dX1_begin_12 : decode cX1_begin 12 = .ok (.invokestatic 70, 3) := by decide +kernel
theorem dX1_begin_15 : decode cX1_begin 15 = .ok (.ifCond .eq 18, 3) := by decide +kernel
theorem dX1_begin_18 : decode cX1_begin 18 = .ok (.iload_n 1, 1) := by decide +kernel
theorem dX1_begin_19 : decode cX1_begin 19 = .ok (.bipush 8, 2) := by decide +kernel
theorem dX1_begin_21 : decode cX1_begin 21 = .ok (.bipush 63, 2) := by decide +kernel
theorem dX1_begin_23 : decode cX1_begin 23 = .ok (.invokestatic 70, 3) := by decide +kernel
theorem dX1_begin_26 : decode cX1_begin 26 = .ok (.ifCond .eq 7, 3) := by decide +kernel
theorem dX1_begin_29 : decode cX1_begin 29 = .ok (.iconst 1, 1) := by decide +kernel
theorem dX1_begin_30 : decode cX1_begin 30 = .ok (.goto 4, 3) := by decide +kernel
theorem dX1_begin_33 : decode cX1_begin 33 = .ok (.iconst 0, 1) := by decide +kernel
theorem dX1_begin_34 : decode cX1_begin 34 = .ok (.invokestatic 74, 3) := by decide +kernel
theorem dX1_begin_37 : decode cX1_begin 37 = .ok (.aload_n 0, 1) := by decide +kernel
theorem dX1_begin_38 : decode cX1_begin 38 = .ok (.getfield 16, 3) := by decide +kernel
theorem dX1_begin_41 : decode cX1_begin 41 = .ok (.iload_n 1, 1) := by decide +kernel
theorem dX1_begin_42 : decode cX1_begin 42 = .ok (.iload_n 2, 1) := by decide +kernel
theorem dX1_begin_43 : decode cX1_begin 43 = .ok (.invokevirtual 78, 3) := by decide +kernel
theorem dX1_begin_46 : decode cX1_begin 46 = .ok (.ifCond .ne 13, 3) := by decide +kernel
theorem dX1_begin_49 : decode cX1_begin 49 = .ok (.new 82, 3) := by decide +kernel
theorem dX1_begin_52 : decode cX1_begin 52 = .ok (.dup, 1) := by decide +kernel
theorem dX1_begin_53 : decode cX1_begin 53 = .ok (.ldc 84, 2) := by decide +kernel
theorem dX1_begin_55 : decode cX1_begin 55 = .ok (.invokespecial 86, 3) := by decide +kernel
theorem dX1_begin_58 : decode cX1_begin 58 = .ok (.athrow, 1) := by decide +kernel
theorem dX1_begin_59 : decode cX1_begin 59 = .ok (.aload_n 0, 1) := by decide +kernel
theorem dX1_begin_60 : decode cX1_begin 60 = .ok (.getfield 10, 3) := by decide +kernel
theorem dX1_begin_63 : decode cX1_begin 63 = .ok (.astore 4, 2) := by decide +kernel
theorem dX1_begin_65 : decode cX1_begin 65 = .ok (.aload_n 0, 1) := by decide +kernel
theorem dX1_begin_66 : decode cX1_begin 66 = .ok (.aload_n 0, 1) := by decide +kernel
theorem dX1_begin_67 : decode cX1_begin 67 = .ok (.getfield 16, 3) := by decide +kernel
theorem dX1_begin_70 : decode cX1_begin 70 = .ok (.putfield 10, 3) := by decide +kernel
theorem dX1_begin_73 : decode cX1_begin 73 = .ok (.aload_n 0, 1) := by decide +kernel
theorem dX1_begin_74 : decode cX1_begin 74 = .ok (.aload 4, 2) := by decide +kernel
theorem dX1_begin_76 : decode cX1_begin 76 = .ok (.putfield 16, 3) := by decide +kernel
theorem dX1_begin_79 : decode cX1_begin 79 = .ok (.aload_n 0, 1) := by decide +kernel
theorem dX1_begin_80 : decode cX1_begin 80 = .ok (.iload_n 3, 1) := by decide +kernel
theorem dX1_begin_81 : decode cX1_begin 81 = .ok (.putfield 87, 3) := by decide +kernel
theorem dX1_begin_84 : decode cX1_begin 84 = .ok (.aload_n 0, 1) := by decide +kernel
theorem dX1_begin_85 : decode cX1_begin 85 = .ok (.iconst 1, 1) := by decide +kernel
theorem dX1_begin_86 : decode cX1_begin 86 = .ok (.putfield 61, 3) := by decide +kernel
theorem dX1_begin_89 : decode cX1_begin 89 = .ok (.iconst 0, 1) := by decide +kernel
theorem dX1_begin_90 : decode cX1_begin 90 = .ok (.istore 5, 2) := by decide +kernel
theorem dX1_begin_92 : decode cX1_begin 92 = .ok (.iload 5, 2) := by decide +kernel
theorem dX1_begin_94 : decode cX1_begin 94 = .ok (.iconst 4, 1) := by decide +kernel
theorem dX1_begin_95 : decode cX1_begin 95 = .ok (.if_icmp .ge 51, 3) := by decide +kernel
theorem dX1_begin_98 : decode cX1_begin 98 = .ok (.aload_n 0, 1) := by decide +kernel
theorem dX1_begin_99 : decode cX1_begin 99 = .ok (.getfield 19, 3) := by decide +kernel
theorem dX1_begin_102 : decode cX1_begin 102 = .ok (.iload 5, 2) := by decide +kernel
theorem dX1_begin_104 : decode cX1_begin 104 = .ok (.iconst 0, 1) := by decide +kernel
theorem dX1_begin_105 : decode cX1_begin 105 = .ok (.iastore, 1) := by decide +kernel
theorem dX1_begin_106 : decode cX1_begin 106 = .ok (.aload_n 0, 1) := by decide +kernel
theorem dX1_begin_107 : decode cX1_begin 107 = .ok (.getfield 23, 3) := by decide +kernel
theorem dX1_begin_110 : decode cX1_begin 110 = .ok (.iload 5, 2) := by decide +kernel
theorem dX1_begin_112 : decode cX1_begin 112 = .ok (.iconst 0, 1) := by decide +kernel
theorem dX1_begin_113 : decode cX1_begin 113 = .ok (.iastore, 1) := by decide +kernel
theorem dX1_begin_114 : decode cX1_begin 114 = .ok (.iconst 0, 1) := by decide +kernel
theorem dX1_begin_115 : decode cX1_begin 115 = .ok (.istore 6, 2) := by decide +kernel
theorem dX1_begin_117 : decode cX1_begin 117 = .ok (.iload 6, 2) := by decide +kernel
theorem dX1_begin_119 : decode cX1_begin 119 = .ok (.iconst 4, 1) := by decide +kernel
theorem dX1_begin_120 : decode cX1_begin 120 = .ok (.if_icmp .ge 20, 3) := by decide +kernel
theorem dX1_begin_123 : decode cX1_begin 123 = .ok (.aload_n 0, 1) := by decide +kernel
theorem dX1_begin_124 : decode cX1_begin 124 = .ok (.getfield 31, 3) := by decide +kernel
theorem dX1_begin_127 : decode cX1_begin 127 = .ok (.iload 6, 2) := by decide +kernel
theorem dX1_begin_129 : decode cX1_begin 129 = .ok (.aaload, 1) := by decide +kernel
theorem dX1_begin_130 : decode cX1_begin 130 = .ok (.iload 5, 2) := by decide +kernel
theorem dX1_begin_132 : decode cX1_begin 132 = .ok (.iconst 0, 1) := by decide +kernel
theorem dX1_begin_133 : decode cX1_begin 133 = .ok (.iastore, 1) := by decide +kernel
theorem dX1_begin_134 : decode cX1_begin 134 = .ok (.iinc 6 1, 3) := by decide +kernel
theorem dX1_begin_137 : decode cX1_begin 137 = .ok (.goto (-20), 3) := by decide +kernel
theorem dX1_begin_140 : decode cX1_begin 140 = .ok (.iinc 5 1, 3) := by decide +kernel
theorem dX1_begin_143 : decode cX1_begin 143 = .ok (.goto (-51), 3) := by decide +kernel
theorem dX1_begin_146 : decode cX1_begin 146 = .ok (.aload_n 0, 1) := by decide +kernel
theorem dX1_begin_147 : decode cX1_begin 147 = .ok (.getfield 10, 3) := by decide +kernel
theorem dX1_begin_150 : decode cX1_begin 150 = .ok (.getfield 91, 3) := by decide +kernel
theorem dX1_begin_153 : decode cX1_begin 153 = .ok (.ireturn, 1) := by decide +kernel
theorem dX1_within_0 : decode cX1_within 0 = .ok (.iload_n 0, 1) := by decide +kernel
theorem dX1_within_1 : decode cX1_within 1 = .ok (.iload_n 1, 1) := by decide +kernel
theorem dX1_within_2 : decode cX1_within 2 = .ok (.if_icmp .lt 12, 3) := by decide +kernel
theorem dX1_within_5 : decode cX1_within 5 = .ok (.iload_n 0, 1) := by decide +kernel
theorem dX1_within_6 : decode cX1_within 6 = .ok (.iload_n 2, 1) := by decide +kernel
theorem dX1_within_7 : decode cX1_within 7 = .ok (.if_icmp .gt 7, 3) := by decide +kernel
theorem dX1_within_10 : decode cX1_within 10 = .ok (.iconst 1, 1) := by decide +kernel
theorem dX1_within_11 : decode cX1_within 11 = .ok (.goto 4, 3) := by decide +kernel
theorem dX1_within_14 : decode cX1_within 14 = .ok (.iconst 0, 1) := by decide +kernel
theorem dX1_within_15 : decode cX1_within 15 = .ok (.ireturn, 1) := by decide +kernel
theorem dX1_need_0 : decode cX1_need 0 = .ok (.iload_n 0, 1) := by decide +kernel
theorem dX1_need_1 : decode cX1_need 1 = .ok (.ifCond .ne 13, 3) := by decide +kernel
theorem dX1_need_4 : decode cX1_need 4 = .ok (.new 49, 3) := by decide +kernel
theorem dX1_need_7 : decode cX1_need 7 = .ok (.dup, 1) := by decide +kernel
theorem dX1_need_8 : decode cX1_need 8 = .ok (.ldc 51, 2) := by decide +kernel
theorem dX1_need_10 : decode cX1_need 10 = .ok (.invokespecial 53, 3) := by decide +kernel
theorem dX1_need_13 : decode cX1_need 13 = .ok (.athrow, 1) := by decide +kernel
theorem dX1_need_14 : decode cX1_need 14 = .ok (.return_, 1) := by decide +kernel
theorem dX1_degreeOf_0 : decode cX1_degreeOf 0 = .ok (.iconst (-1), 1) := by decide +kernel
theorem dX1_degreeOf_1 : decode cX1_degreeOf 1 = .ok (.istore_n 1, 1) := by decide +kernel
theorem dX1_degreeOf_2 : decode cX1_degreeOf 2 = .ok (.iload_n 0, 1) := by decide +kernel
theorem dX1_degreeOf_3 : decode cX1_degreeOf 3 = .ok (.istore_n 2, 1) := by decide +kernel
theorem dX1_degreeOf_4 : decode cX1_degreeOf 4 = .ok (.iload_n 2, 1) := by decide +kernel
theorem dX1_degreeOf_5 : decode cX1_degreeOf 5 = .ok (.ifCond .eq 13, 3) := by decide +kernel
theorem dX1_degreeOf_8 : decode cX1_degreeOf 8 = .ok (.iinc 1 1, 3) := by decide +kernel
theorem dX1_degreeOf_11 : decode cX1_degreeOf 11 = .ok (.iload_n 2, 1) := by decide +kernel
theorem dX1_degreeOf_12 : decode cX1_degreeOf 12 = .ok (.iconst 1, 1) := by decide +kernel
theorem dX1_degreeOf_13 : decode cX1_degreeOf 13 = .ok (.iushr, 1) := by decide +kernel
theorem dX1_degreeOf_14 : decode cX1_degreeOf 14 = .ok (.istore_n 2, 1) := by decide +kernel
theorem dX1_degreeOf_15 : decode cX1_degreeOf 15 = .ok (.goto (-11), 3) := by decide +kernel
theorem dX1_degreeOf_18 : decode cX1_degreeOf 18 = .ok (.iload_n 1, 1) := by decide +kernel
theorem dX1_degreeOf_19 : decode cX1_degreeOf 19 = .ok (.ireturn, 1) := by decide +kernel
theorem dX1_length_0 : decode cX1_length 0 = .ok (.aload_n 0, 1) := by decide +kernel
theorem dX1_length_1 : decode cX1_length 1 = .ok (.invokevirtual 94, 3) := by decide +kernel
theorem dX1_length_4 : decode cX1_length 4 = .ok (.aload_n 0, 1) := by decide +kernel
theorem dX1_length_5 : decode cX1_length 5 = .ok (.getfield 10, 3) := by decide +kernel
theorem dX1_length_8 : decode cX1_length 8 = .ok (.getfield 97, 3) := by decide +kernel
theorem dX1_length_11 : decode cX1_length 11 = .ok (.getfield 101, 3) := by decide +kernel
theorem dX1_length_14 : decode cX1_length 14 = .ok (.ireturn, 1) := by decide +kernel
theorem dX1_needCode_0 : decode cX1_needCode 0 = .ok (.aload_n 0, 1) := by decide +kernel
theorem dX1_needCode_1 : decode cX1_needCode 1 = .ok (.getfield 61, 3) := by decide +kernel
theorem dX1_needCode_4 : decode cX1_needCode 4 = .ok (.ifCond .ne 13, 3) := by decide +kernel
theorem dX1_needCode_7 : decode cX1_needCode 7 = .ok (.new 65, 3) := by decide +kernel
theorem dX1_needCode_10 : decode cX1_needCode 10 = .ok (.dup, 1) := by decide +kernel
theorem dX1_needCode_11 : decode cX1_needCode 11 = .ok (.ldc 67, 2) := by decide +kernel
theorem dX1_needCode_13 : decode cX1_needCode 13 = .ok (.invokespecial 69, 3) := by decide +kernel
theorem dX1_needCode_16 : decode cX1_needCode 16 = .ok (.athrow, 1) := by decide +kernel
theorem dX1_needCode_17 : decode cX1_needCode 17 = .ok (.return_, 1) := by decide +kernel
theorem dX1_generator_0 : decode cX1_generator 0 = .ok (.aload_n 0, 1) := by decide +kernel
theorem dX1_generator_1 : decode cX1_generator 1 = .ok (.invokevirtual 94, 3) := by decide +kernel
theorem dX1_generator_4 : decode cX1_generator 4 = .ok (.aload_n 0, 1) := by decide +kernel
theorem dX1_generator_5 : decode cX1_generator 5 = .ok (.getfield 10, 3) := by decide +kernel
theorem dX1_generator_8 : decode cX1_generator 8 = .ok (.getfield 106, 3) := by decide +kernel
theorem dX1_generator_11 : decode cX1_generator 11 = .ok (.ireturn, 1) := by decide +kernel
theorem dX1_power_0 : decode cX1_power 0 = .ok (.aload_n 0, 1) := by decide +kernel
theorem dX1_power_1 : decode cX1_power 1 = .ok (.invokevirtual 94, 3) := by decide +kernel
theorem dX1_power_4 : decode cX1_power 4 = .ok (.iload_n 1, 1) := by decide +kernel
theorem dX1_power_5 : decode cX1_power 5 = .ok (.ifCond .lt 7, 3) := by decide +kernel
theorem dX1_power_8 : decode cX1_power 8 = .ok (.iconst 1, 1) := by decide +kernel
theorem dX1_power_9 : decode cX1_power 9 = .ok (.goto 4, 3) := by decide +kernel
theorem dX1_power_12 : decode cX1_power 12 = .ok (.iconst 0, 1) := by decide +kernel
theorem dX1_power_13 : decode cX1_power 13 = .ok (.invokestatic 74, 3) := by decide +kernel
theorem dX1_power_16 : decode cX1_power 16 = .ok (.aload_n 0, 1) := by decide +kernel
theorem dX1_power_17 : decode cX1_power 17 = .ok (.getfield 10, 3) := by decide +kernel
theorem dX1_power_20 : decode cX1_power 20 = .ok (.getfield 97, 3) := by decide +kernel
theorem dX1_power_23 : decode cX1_power 23 = .ok (.getfield 109, 3) := by decide +kernel
theorem dX1_power_26 : decode cX1_power 26 = .ok (.iload_n 1, 1) := by decide +kernel
theorem dX1_power_27 : decode cX1_power 27 = .ok (.aload_n 0, 1) := by decide +kernel
theorem dX1_power_28 : decode cX1_power 28 = .ok (.getfield 10, 3) := by decide +kernel
theorem dX1_power_31 : decode cX1_power 31 = .ok (.getfield 97, 3) := by decide +kernel
theorem dX1_power_34 : decode cX1_power 34 = .ok (.getfield 101, 3) := by decide +kernel
theorem dX1_power_37 : decode cX1_power 37 = .ok (.irem, 1) := by decide +kernel
theorem dX1_power_38 : decode cX1_power 38 = .ok (.iaload, 1) := by decide +kernel
theorem dX1_power_39 : decode cX1_power 39 = .ok (.ireturn, 1) := by decide +kernel
theorem dX1_log_0 : decode cX1_log 0 = .ok (.aload_n 0, 1) := by decide +kernel
theorem dX1_log_1 : decode cX1_log 1 = .ok (.invokevirtual 94, 3) := by decide +kernel
theorem dX1_log_4 : decode cX1_log 4 = .ok (.iload_n 1, 1) := by decide +kernel
theorem dX1_log_5 : decode cX1_log 5 = .ok (.iconst 1, 1) := by decide +kernel
theorem dX1_log_6 : decode cX1_log 6 = .ok (.aload_n 0, 1) := by decide +kernel
theorem dX1_log_7 : decode cX1_log 7 = .ok (.getfield 10, 3) := by decide +kernel
theorem dX1_log_10 : decode cX1_log 10 = .ok (.getfield 97, 3) := by decide +kernel
theorem dX1_log_13 : decode cX1_log 13 = .ok (.getfield 101, 3) := by decide +kernel
theorem dX1_log_16 : decode cX1_log 16 = .ok (.invokestatic 70, 3) := by decide +kernel
theorem dX1_log_19 : decode cX1_log 19 = .ok (.invokestatic 74, 3) := by decide +kernel
theorem dX1_log_22 : decode cX1_log 22 = .ok (.aload_n 0, 1) := by decide +kernel
theorem dX1_log_23 : decode cX1_log 23 = .ok (.getfield 10, 3) := by decide +kernel
theorem dX1_log_26 : decode cX1_log 26 = .ok (.getfield 97, 3) := by decide +kernel
theorem dX1_log_29 : decode cX1_log 29 = .ok (.getfield 112, 3) := by decide +kernel
theorem dX1_log_32 : decode cX1_log 32 = .ok (.iload_n 1, 1) := by decide +kernel
theorem dX1_log_33 : decode cX1_log 33 = .ok (.iaload, 1) := by decide +kernel
theorem dX1_log_34 : decode cX1_log 34 = .ok (.ireturn, 1) := by decide +kernel
theorem dX1_times_0 : decode cX1_times 0 = .ok (.aload_n 0, 1) := by decide +kernel
theorem dX1_times_1 : decode cX1_times 1 = .ok (.invokevirtual 94, 3) := by decide +kernel
theorem dX1_times_4 : decode cX1_times 4 = .ok (.iload_n 1, 1) := by decide +kernel
theorem dX1_times_5 : decode cX1_times 5 = .ok (.iconst 0, 1) := by decide +kernel
theorem dX1_times_6 : decode cX1_times 6 = .ok (.aload_n 0, 1) := by decide +kernel
theorem dX1_times_7 : decode cX1_times 7 = .ok (.getfield 10, 3) := by decide +kernel
theorem dX1_times_10 : decode cX1_times 10 = .ok (.getfield 97, 3) := by decide +kernel
theorem dX1_times_13 : decode cX1_times 13 = .ok (.getfield 101, 3) := by decide +kernel
theorem dX1_times_16 : decode cX1_times 16 = .ok (.invokestatic 70, 3) := by decide +kernel
theorem dX1_times_19 : decode cX1_times 19 = .ok (.ifCond .eq 25, 3) := by decide +kernel
theorem dX1_times_22 : decode cX1_times 22 = .ok (.iload_n 2, 1) := by decide +kernel
theorem dX1_times_23 : decode cX1_times 23 = .ok (.iconst 0, 1) := by decide +kernel
theorem dX1_times_24 : decode cX1_times 24 = .ok (.aload_n 0, 1) := by decide +kernel
theorem dX1_times_25 : decode cX1_times 25 = .ok (.getfield 10, 3) := by decide +kernel
theorem dX1_times_28 : decode cX1_times 28 = .ok (.getfield 97, 3) := by decide +kernel
theorem dX1_times_31 : decode cX1_times 31 = .ok (.getfield 101, 3) := by decide +kernel
theorem dX1_times_34 : decode cX1_times 34 = .ok (.invokestatic 70, 3) := by decide +kernel
theorem dX1_times_37 : decode cX1_times 37 = .ok (.ifCond .eq 7, 3) := by decide +kernel
theorem dX1_times_40 : decode cX1_times 40 = .ok (.iconst 1, 1) := by decide +kernel
theorem dX1_times_41 : decode cX1_times 41 = .ok (.goto 4, 3) := by decide +kernel
theorem dX1_times_44 : decode cX1_times 44 = .ok (.iconst 0, 1) := by decide +kernel
theorem dX1_times_45 : decode cX1_times 45 = .ok (.invokestatic 74, 3) := by decide +kernel
theorem dX1_times_48 : decode cX1_times 48 = .ok (.aload_n 0, 1) := by decide +kernel
theorem dX1_times_49 : decode cX1_times 49 = .ok (.getfield 10, 3) := by decide +kernel
theorem dX1_times_52 : decode cX1_times 52 = .ok (.getfield 97, 3) := by decide +kernel
theorem dX1_times_55 : decode cX1_times 55 = .ok (.iload_n 1, 1) := by decide +kernel
theorem dX1_times_56 : decode cX1_times 56 = .ok (.iload_n 2, 1) := by decide +kernel
theorem dX1_times_57 : decode cX1_times 57 = .ok (.invokevirtual 115, 3) := by decide +kernel
theorem dX1_times_60 : decode cX1_times 60 = .ok (.ireturn, 1) := by decide +kernel
theorem dX1_put_0 : decode cX1_put 0 = .ok (.aload_n 0, 1) := by decide +kernel
theorem dX1_put_1 : decode cX1_put 1 = .ok (.invokevirtual 94, 3) := by decide +kernel
theorem dX1_put_4 : decode cX1_put 4 = .ok (.iload_n 1, 1) := by decide +kernel
theorem dX1_put_5 : decode cX1_put 5 = .ok (.iconst 0, 1) := by decide +kernel
theorem dX1_put_6 : decode cX1_put 6 = .ok (.aload_n 0, 1) := by decide +kernel
theorem dX1_put_7 : decode cX1_put 7 = .ok (.getfield 87, 3) := by decide +kernel
theorem dX1_put_10 : decode cX1_put 10 = .ok (.aload_n 0, 1) := by decide +kernel
theorem dX1_put_11 : decode cX1_put 11 = .ok (.getfield 10, 3) := by decide +kernel
theorem dX1_put_14 : decode cX1_put 14 = .ok (.getfield 91, 3) := by decide +kernel
theorem dX1_put_17 : decode cX1_put 17 = .ok (.imul, 1) := by decide +kernel
theorem dX1_put_18 : decode cX1_put 18 = .ok (.iconst 1, 1) := by decide +kernel
theorem dX1_put_19 : decode cX1_put 19 = .ok (.isub, 1) := by decide +kernel
theorem dX1_put_20 : decode cX1_put 20 = .ok (.invokestatic 70, 3) := by decide +kernel
theorem dX1_put_23 : decode cX1_put 23 = .ok (.invokestatic 119, 3) := by decide +kernel
theorem dX1_put_26 : decode cX1_put 26 = .ok (.iload_n 2, 1) := by decide +kernel
theorem dX1_put_27 : decode cX1_put 27 = .ok (.iconst 0, 1) := by decide +kernel
theorem dX1_put_28 : decode cX1_put 28 = .ok (.iconst 1, 1) := by decide +kernel
theorem dX1_put_29 : decode cX1_put 29 = .ok (.invokestatic 70, 3) := by decide +kernel
theorem dX1_put_32 : decode cX1_put 32 = .ok (.invokestatic 74, 3) := by decide +kernel
theorem dX1_put_35 : decode cX1_put 35 = .ok (.iconst 1, 1) := by decide +kernel
theorem dX1_put_36 : decode cX1_put 36 = .ok (.iload_n 1, 1) := by decide +kernel
theorem dX1_put_37 : decode cX1_put 37 = .ok (.aload_n 0, 1) := by decide +kernel
theorem dX1_put_38 : decode cX1_put 38 = .ok (.getfield 10, 3) := by decide +kernel
theorem dX1_put_41 : decode cX1_put 41 = .ok (.getfield 91, 3) := by decide +kernel
theorem dX1_put_44 : decode cX1_put 44 = .ok (.irem, 1) := by decide +kernel
theorem dX1_put_45 : decode cX1_put 45 = .ok (.ishl, 1) := by decide +kernel
theorem dX1_put_46 : decode cX1_put 46 = .ok (.istore_n 3, 1) := by decide +kernel
theorem dX1_put_47 : decode cX1_put 47 = .ok (.aload_n 0, 1) := by decide +kernel
theorem dX1_put_48 : decode cX1_put 48 = .ok (.getfield 19, 3) := by decide +kernel
theorem dX1_put_51 : decode cX1_put 51 = .ok (.iload_n 1, 1) := by decide +kernel
theorem dX1_put_52 : decode cX1_put 52 = .ok (.aload_n 0, 1) := by decide +kernel
theorem dX1_put_53 : decode cX1_put 53 = .ok (.getfield 10, 3) := by decide +kernel
theorem dX1_put_56 : decode cX1_put 56 = .ok (.getfield 91, 3) := by decide +kernel
theorem dX1_put_59 : decode cX1_put 59 = .ok (.idiv, 1) := by decide +kernel
theorem dX1_put_60 : decode cX1_put 60 = .ok (.aload_n 0, 1) := by decide +kernel
theorem dX1_put_61 : decode cX1_put 61 = .ok (.getfield 19, 3) := by decide +kernel
theorem dX1_put_64 : decode cX1_put 64 = .ok (.iload_n 1, 1) := by decide +kernel
theorem dX1_put_65 : decode cX1_put 65 = .ok (.aload_n 0, 1) := by decide +kernel
theorem dX1_put_66 : decode cX1_put 66 = .ok (.getfield 10, 3) := by decide +kernel
theorem dX1_put_69 : decode cX1_put 69 = .ok (.getfield 91, 3) := by decide +kernel
theorem dX1_put_72 : decode cX1_put 72 = .ok (.idiv, 1) := by decide +kernel
theorem dX1_put_73 : decode cX1_put 73 = .ok (.iaload, 1) := by decide +kernel
theorem dX1_put_74 : decode cX1_put 74 = .ok (.iload_n 3, 1) := by decide +kernel
theorem dX1_put_75 : decode cX1_put 75 = .ok (.iconst (-1), 1) := by decide +kernel
theorem dX1_put_76 : decode cX1_put 76 = .ok (.ixor, 1) := by decide +kernel
theorem dX1_put_77 : decode cX1_put 77 = .ok (.iand, 1) := by decide +kernel
theorem dX1_put_78 : decode cX1_put 78 = .ok (.iload_n 2, 1) := by decide +kernel
theorem dX1_put_79 : decode cX1_put 79 = .ok (.ifCond .ne 7, 3) := by decide +kernel
theorem dX1_put_82 : decode cX1_put 82 = .ok (.iconst 0, 1) := by decide +kernel
theorem dX1_put_83 : decode cX1_put 83 = .ok (.goto 4, 3) := by decide +kernel
theorem dX1_put_86 : decode cX1_put 86 = .ok (.iload_n 3, 1) := by decide +kernel
theorem dX1_put_87 : decode cX1_put 87 = .ok (.ior, 1) := by decide +kernel
theorem dX1_put_88 : decode cX1_put 88 = .ok (.iastore, 1) := by decide +kernel
theorem dX1_put_89 : decode cX1_put 89 = .ok (.return_, 1) := by decide +kernel
theorem dX1_needPlace_0 : decode cX1_needPlace 0 = .ok (.iload_n 0, 1) := by decide +kernel
theorem dX1_needPlace_1 : decode cX1_needPlace 1 = .ok (.ifCond .ne 13, 3) := by decide +kernel
theorem dX1_needPlace_4 : decode cX1_needPlace 4 = .ok (.new 56, 3) := by decide +kernel
theorem dX1_needPlace_7 : decode cX1_needPlace 7 = .ok (.dup, 1) := by decide +kernel
theorem dX1_needPlace_8 : decode cX1_needPlace 8 = .ok (.ldc 58, 2) := by decide +kernel
theorem dX1_needPlace_10 : decode cX1_needPlace 10 = .ok (.invokespecial 60, 3) := by decide +kernel
theorem dX1_needPlace_13 : decode cX1_needPlace 13 = .ok (.athrow, 1) := by decide +kernel
theorem dX1_needPlace_14 : decode cX1_needPlace 14 = .ok (.return_, 1) := by decide +kernel
theorem dX1_get_0 : decode cX1_get 0 = .ok (.aload_n 0, 1) := by decide +kernel
theorem dX1_get_1 : decode cX1_get 1 = .ok (.invokevirtual 94, 3) := by decide +kernel
theorem dX1_get_4 : decode cX1_get 4 = .ok (.iload_n 1, 1) := by decide +kernel
theorem dX1_get_5 : decode cX1_get 5 = .ok (.iconst 0, 1) := by decide +kernel
theorem dX1_get_6 : decode cX1_get 6 = .ok (.aload_n 0, 1) := by decide +kernel
theorem dX1_get_7 : decode cX1_get 7 = .ok (.getfield 87, 3) := by decide +kernel
theorem dX1_get_10 : decode cX1_get 10 = .ok (.aload_n 0, 1) := by decide +kernel
theorem dX1_get_11 : decode cX1_get 11 = .ok (.getfield 10, 3) := by decide +kernel
theorem dX1_get_14 : decode cX1_get 14 = .ok (.getfield 91, 3) := by decide +kernel
theorem dX1_get_17 : decode cX1_get 17 = .ok (.imul, 1) := by decide +kernel
theorem dX1_get_18 : decode cX1_get 18 = .ok (.iconst 1, 1) := by decide +kernel
theorem dX1_get_19 : decode cX1_get 19 = .ok (.isub, 1) := by decide +kernel
theorem dX1_get_20 : decode cX1_get 20 = .ok (.invokestatic 70, 3) := by decide +kernel
theorem dX1_get_23 : decode cX1_get 23 = .ok (.invokestatic 119, 3) := by decide +kernel
theorem dX1_get_26 : decode cX1_get 26 = .ok (.aload_n 0, 1) := by decide +kernel
theorem dX1_get_27 : decode cX1_get 27 = .ok (.getfield 19, 3) := by decide +kernel
theorem dX1_get_30 : decode cX1_get 30 = .ok (.iload_n 1, 1) := by decide +kernel
theorem dX1_get_31 : decode cX1_get 31 = .ok (.aload_n 0, 1) := by decide +kernel
theorem dX1_get_32 : decode cX1_get 32 = .ok (.getfield 10, 3) := by decide +kernel
theorem dX1_get_35 : decode cX1_get 35 = .ok (.getfield 91, 3) := by decide +kernel
theorem dX1_get_38 : decode cX1_get 38 = .ok (.idiv, 1) := by decide +kernel
theorem dX1_get_39 : decode cX1_get 39 = .ok (.iaload, 1) := by decide +kernel
theorem dX1_get_40 : decode cX1_get 40 = .ok (.iload_n 1, 1) := by decide +kernel
theorem dX1_get_41 : decode cX1_get 41 = .ok (.aload_n 0, 1) := by decide +kernel
theorem dX1_get_42 : decode cX1_get 42 = .ok (.getfield 10, 3) := by decide +kernel
theorem dX1_get_45 : decode cX1_get 45 = .ok (.getfield 91, 3) := by decide +kernel
theorem dX1_get_48 : decode cX1_get 48 = .ok (.irem, 1) := by decide +kernel
theorem dX1_get_49 : decode cX1_get 49 = .ok (.ishr, 1) := by decide +kernel
theorem dX1_get_50 : decode cX1_get 50 = .ok (.iconst 1, 1) := by decide +kernel
theorem dX1_get_51 : decode cX1_get 51 = .ok (.iand, 1) := by decide +kernel
theorem dX1_get_52 : decode cX1_get 52 = .ok (.ireturn, 1) := by decide +kernel
theorem dX1_encode_0 : decode cX1_encode 0 = .ok (.aload_n 0, 1) := by decide +kernel
theorem dX1_encode_1 : decode cX1_encode 1 = .ok (.invokevirtual 94, 3) := by decide +kernel
theorem dX1_encode_4 : decode cX1_encode 4 = .ok (.iconst 0, 1) := by decide +kernel
theorem dX1_encode_5 : decode cX1_encode 5 = .ok (.istore_n 1, 1) := by decide +kernel
theorem dX1_encode_6 : decode cX1_encode 6 = .ok (.iconst 0, 1) := by decide +kernel
theorem dX1_encode_7 : decode cX1_encode 7 = .ok (.istore_n 2, 1) := by decide +kernel
theorem dX1_encode_8 : decode cX1_encode 8 = .ok (.iload_n 2, 1) := by decide +kernel
theorem dX1_encode_9 : decode cX1_encode 9 = .ok (.aload_n 0, 1) := by decide +kernel
theorem dX1_encode_10 : decode cX1_encode 10 = .ok (.getfield 87, 3) := by decide +kernel
theorem dX1_encode_13 : decode cX1_encode 13 = .ok (.if_icmp .ge 40, 3) := by decide +kernel
theorem dX1_encode_16 : decode cX1_encode 16 = .ok (.aload_n 0, 1) := by decide +kernel
theorem dX1_encode_17 : decode cX1_encode 17 = .ok (.getfield 23, 3) := by decide +kernel
theorem dX1_encode_20 : decode cX1_encode 20 = .ok (.iload_n 2, 1) := by decide +kernel
theorem dX1_encode_21 : decode cX1_encode 21 = .ok (.aload_n 0, 1) := by decide +kernel
theorem dX1_encode_22 : decode cX1_encode 22 = .ok (.getfield 10, 3) := by decide +kernel
theorem dX1_encode_25 : decode cX1_encode 25 = .ok (.aload_n 0, 1) := by decide +kernel
theorem dX1_encode_26 : decode cX1_encode 26 = .ok (.getfield 19, 3) := by decide +kernel
theorem dX1_encode_29 : decode cX1_encode 29 = .ok (.iload_n 2, 1) := by decide +kernel
theorem dX1_encode_30 : decode cX1_encode 30 = .ok (.iaload, 1) := by decide +kernel
theorem dX1_encode_31 : decode cX1_encode 31 = .ok (.invokevirtual 122, 3) := by decide +kernel
theorem dX1_encode_34 : decode cX1_encode 34 = .ok (.iastore, 1) := by decide +kernel
theorem dX1_encode_35 : decode cX1_encode 35 = .ok (.iload_n 1, 1) := by decide +kernel
theorem dX1_encode_36 : decode cX1_encode 36 = .ok (.aload_n 0, 1) := by decide +kernel
theorem dX1_encode_37 : decode cX1_encode 37 = .ok (.getfield 23, 3) := by decide +kernel
theorem dX1_encode_40 : decode cX1_encode 40 = .ok (.iload_n 2, 1) := by decide +kernel
theorem dX1_encode_41 : decode cX1_encode 41 = .ok (.iaload, 1) := by decide +kernel
theorem dX1_encode_42 : decode cX1_encode 42 = .ok (.invokestatic 126, 3) := by decide +kernel
theorem dX1_encode_45 : decode cX1_encode 45 = .ok (.iadd, 1) := by decide +kernel
theorem dX1_encode_46 : decode cX1_encode 46 = .ok (.istore_n 1, 1) := by decide +kernel
theorem dX1_encode_47 : decode cX1_encode 47 = .ok (.iinc 2 1, 3) := by decide +kernel
theorem dX1_encode_50 : decode cX1_encode 50 = .ok (.goto (-42), 3) := by decide +kernel
theorem dX1_encode_53 : decode cX1_encode 53 = .ok (.iload_n 1, 1) := by decide +kernel
theorem dX1_encode_54 : decode cX1_encode 54 = .ok (.ireturn, 1) := by decide +kernel
theorem dX1_bit_0 : decode cX1_bit 0 = .ok (.aload_n 0, 1) := by decide +kernel
theorem dX1_bit_1 : decode cX1_bit 1 = .ok (.invokevirtual 94, 3) := by decide +kernel
theorem dX1_bit_4 : decode cX1_bit 4 = .ok (.iload_n 1, 1) := by decide +kernel
theorem dX1_bit_5 : decode cX1_bit 5 = .ok (.iconst 0, 1) := by decide +kernel
theorem dX1_bit_6 : decode cX1_bit 6 = .ok (.aload_n 0, 1) := by decide +kernel
theorem dX1_bit_7 : decode cX1_bit 7 = .ok (.getfield 87, 3) := by decide +kernel
theorem dX1_bit_10 : decode cX1_bit 10 = .ok (.aload_n 0, 1) := by decide +kernel
theorem dX1_bit_11 : decode cX1_bit 11 = .ok (.getfield 10, 3) := by decide +kernel
theorem dX1_bit_14 : decode cX1_bit 14 = .ok (.getfield 97, 3) := by decide +kernel
theorem dX1_bit_17 : decode cX1_bit 17 = .ok (.getfield 101, 3) := by decide +kernel
theorem dX1_bit_20 : decode cX1_bit 20 = .ok (.imul, 1) := by decide +kernel
theorem dX1_bit_21 : decode cX1_bit 21 = .ok (.iconst 1, 1) := by decide +kernel
theorem dX1_bit_22 : decode cX1_bit 22 = .ok (.isub, 1) := by decide +kernel
theorem dX1_bit_23 : decode cX1_bit 23 = .ok (.invokestatic 70, 3) := by decide +kernel
theorem dX1_bit_26 : decode cX1_bit 26 = .ok (.invokestatic 119, 3) := by decide +kernel
theorem dX1_bit_29 : decode cX1_bit 29 = .ok (.aload_n 0, 1) := by decide +kernel
theorem dX1_bit_30 : decode cX1_bit 30 = .ok (.getfield 23, 3) := by decide +kernel
theorem dX1_bit_33 : decode cX1_bit 33 = .ok (.iload_n 1, 1) := by decide +kernel
theorem dX1_bit_34 : decode cX1_bit 34 = .ok (.aload_n 0, 1) := by decide +kernel
theorem dX1_bit_35 : decode cX1_bit 35 = .ok (.getfield 87, 3) := by decide +kernel
theorem dX1_bit_38 : decode cX1_bit 38 = .ok (.irem, 1) := by decide +kernel
theorem dX1_bit_39 : decode cX1_bit 39 = .ok (.iaload, 1) := by decide +kernel
theorem dX1_bit_40 : decode cX1_bit 40 = .ok (.iload_n 1, 1) := by decide +kernel
theorem dX1_bit_41 : decode cX1_bit 41 = .ok (.aload_n 0, 1) := by decide +kernel
theorem dX1_bit_42 : decode cX1_bit 42 = .ok (.getfield 87, 3) := by decide +kernel
theorem dX1_bit_45 : decode cX1_bit 45 = .ok (.idiv, 1) := by decide +kernel
theorem dX1_bit_46 : decode cX1_bit 46 = .ok (.ishr, 1) := by decide +kernel
theorem dX1_bit_47 : decode cX1_bit 47 = .ok (.iconst 1, 1) := by decide +kernel
theorem dX1_bit_48 : decode cX1_bit 48 = .ok (.iand, 1) := by decide +kernel
theorem dX1_bit_49 : decode cX1_bit 49 = .ok (.ireturn, 1) := by decide +kernel
theorem dX1_burst_0 : decode cX1_burst 0 = .ok (.aload_n 0, 1) := by decide +kernel
theorem dX1_burst_1 : decode cX1_burst 1 = .ok (.invokevirtual 94, 3) := by decide +kernel
theorem dX1_burst_4 : decode cX1_burst 4 = .ok (.aload_n 0, 1) := by decide +kernel
theorem dX1_burst_5 : decode cX1_burst 5 = .ok (.getfield 87, 3) := by decide +kernel
theorem dX1_burst_8 : decode cX1_burst 8 = .ok (.aload_n 0, 1) := by decide +kernel
theorem dX1_burst_9 : decode cX1_burst 9 = .ok (.getfield 10, 3) := by decide +kernel
theorem dX1_burst_12 : decode cX1_burst 12 = .ok (.getfield 97, 3) := by decide +kernel
theorem dX1_burst_15 : decode cX1_burst 15 = .ok (.getfield 101, 3) := by decide +kernel
theorem dX1_burst_18 : decode cX1_burst 18 = .ok (.imul, 1) := by decide +kernel
theorem dX1_burst_19 : decode cX1_burst 19 = .ok (.istore_n 3, 1) := by decide +kernel
theorem dX1_burst_20 : decode cX1_burst 20 = .ok (.iload_n 1, 1) := by decide +kernel
theorem dX1_burst_21 : decode cX1_burst 21 = .ok (.iconst 0, 1) := by decide +kernel
theorem dX1_burst_22 : decode cX1_burst 22 = .ok (.iload_n 3, 1) := by decide +kernel
theorem dX1_burst_23 : decode cX1_burst 23 = .ok (.iconst 1, 1) := by decide +kernel
theorem dX1_burst_24 : decode cX1_burst 24 = .ok (.isub, 1) := by decide +kernel
theorem dX1_burst_25 : decode cX1_burst 25 = .ok (.invokestatic 70, 3) := by decide +kernel
theorem dX1_burst_28 : decode cX1_burst 28 = .ok (.ifCond .eq 14, 3) := by decide +kernel
theorem dX1_burst_31 : decode cX1_burst 31 = .ok (.iload_n 2, 1) := by decide +kernel
theorem dX1_burst_32 : decode cX1_burst 32 = .ok (.iload_n 3, 1) := by decide +kernel
theorem dX1_burst_33 : decode cX1_burst 33 = .ok (.iload_n 1, 1) := by decide +kernel
theorem dX1_burst_34 : decode cX1_burst 34 = .ok (.isub, 1) := by decide +kernel
theorem dX1_burst_35 : decode cX1_burst 35 = .ok (.if_icmp .gt 7, 3) := by decide +kernel
theorem dX1_burst_38 : decode cX1_burst 38 = .ok (.iconst 1, 1) := by decide +kernel
theorem dX1_burst_39 : decode cX1_burst 39 = .ok (.goto 4, 3) := by decide +kernel
theorem dX1_burst_42 : decode cX1_burst 42 = .ok (.iconst 0, 1) := by decide +kernel
theorem dX1_burst_43 : decode cX1_burst 43 = .ok (.invokestatic 119, 3) := by decide +kernel
theorem dX1_burst_46 : decode cX1_burst 46 = .ok (.iload_n 2, 1) := by decide +kernel
theorem dX1_burst_47 : decode cX1_burst 47 = .ok (.iconst 1, 1) := by decide +kernel
theorem dX1_burst_48 : decode cX1_burst 48 = .ok (.bipush 124, 2) := by decide +kernel
theorem dX1_burst_50 : decode cX1_burst 50 = .ok (.invokestatic 70, 3) := by decide +kernel
theorem dX1_burst_53 : decode cX1_burst 53 = .ok (.invokestatic 74, 3) := by decide +kernel
theorem dX1_burst_56 : decode cX1_burst 56 = .ok (.iload_n 1, 1) := by decide +kernel
theorem dX1_burst_57 : decode cX1_burst 57 = .ok (.istore 4, 2) := by decide +kernel
theorem dX1_burst_59 : decode cX1_burst 59 = .ok (.iload 4, 2) := by decide +kernel
theorem dX1_burst_61 : decode cX1_burst 61 = .ok (.iload_n 1, 1) := by decide +kernel
theorem dX1_burst_62 : decode cX1_burst 62 = .ok (.iload_n 2, 1) := by decide +kernel
theorem dX1_burst_63 : decode cX1_burst 63 = .ok (.iadd, 1) := by decide +kernel
theorem dX1_burst_64 : decode cX1_burst 64 = .ok (.if_icmp .ge 15, 3) := by decide +kernel
theorem dX1_burst_67 : decode cX1_burst 67 = .ok (.aload_n 0, 1) := by decide +kernel
theorem dX1_burst_68 : decode cX1_burst 68 = .ok (.iload 4, 2) := by decide +kernel
theorem dX1_burst_70 : decode cX1_burst 70 = .ok (.invokevirtual 131, 3) := by decide +kernel
theorem dX1_burst_73 : decode cX1_burst 73 = .ok (.iinc 4 1, 3) := by decide +kernel
theorem dX1_burst_76 : decode cX1_burst 76 = .ok (.goto (-17), 3) := by decide +kernel
theorem dX1_burst_79 : decode cX1_burst 79 = .ok (.return_, 1) := by decide +kernel
theorem dX1_flip_0 : decode cX1_flip 0 = .ok (.aload_n 0, 1) := by decide +kernel
theorem dX1_flip_1 : decode cX1_flip 1 = .ok (.getfield 23, 3) := by decide +kernel
theorem dX1_flip_4 : decode cX1_flip 4 = .ok (.iload_n 1, 1) := by decide +kernel
theorem dX1_flip_5 : decode cX1_flip 5 = .ok (.aload_n 0, 1) := by decide +kernel
theorem dX1_flip_6 : decode cX1_flip 6 = .ok (.getfield 87, 3) := by decide +kernel
theorem dX1_flip_9 : decode cX1_flip 9 = .ok (.irem, 1) := by decide +kernel
theorem dX1_flip_10 : decode cX1_flip 10 = .ok (.dup2, 1) := by decide +kernel
theorem dX1_flip_11 : decode cX1_flip 11 = .ok (.iaload, 1) := by decide +kernel
theorem dX1_flip_12 : decode cX1_flip 12 = .ok (.iconst 1, 1) := by decide +kernel
theorem dX1_flip_13 : decode cX1_flip 13 = .ok (.iload_n 1, 1) := by decide +kernel
theorem dX1_flip_14 : decode cX1_flip 14 = .ok (.aload_n 0, 1) := by decide +kernel
theorem dX1_flip_15 : decode cX1_flip 15 = .ok (.getfield 87, 3) := by decide +kernel
theorem dX1_flip_18 : decode cX1_flip 18 = .ok (.idiv, 1) := by decide +kernel
theorem dX1_flip_19 : decode cX1_flip 19 = .ok (.ishl, 1) := by decide +kernel
theorem dX1_flip_20 : decode cX1_flip 20 = .ok (.ixor, 1) := by decide +kernel
theorem dX1_flip_21 : decode cX1_flip 21 = .ok (.iastore, 1) := by decide +kernel
theorem dX1_flip_22 : decode cX1_flip 22 = .ok (.return_, 1) := by decide +kernel
theorem dX1_noise_0 : decode cX1_noise 0 = .ok (.aload_n 0, 1) := by decide +kernel
theorem dX1_noise_1 : decode cX1_noise 1 = .ok (.invokevirtual 94, 3) := by decide +kernel
theorem dX1_noise_4 : decode cX1_noise 4 = .ok (.iload_n 2, 1) := by decide +kernel
theorem dX1_noise_5 : decode cX1_noise 5 = .ok (.iconst 0, 1) := by decide +kernel
theorem dX1_noise_6 : decode cX1_noise 6 = .ok (.sipush 1000, 3) := by decide +kernel
theorem dX1_noise_9 : decode cX1_noise 9 = .ok (.invokestatic 70, 3) := by decide +kernel
theorem dX1_noise_12 : decode cX1_noise 12 = .ok (.invokestatic 74, 3) := by decide +kernel
theorem dX1_noise_15 : decode cX1_noise 15 = .ok (.iload_n 1, 1) := by decide +kernel
theorem dX1_noise_16 : decode cX1_noise 16 = .ok (.istore_n 3, 1) := by decide +kernel
theorem dX1_noise_17 : decode cX1_noise 17 = .ok (.iconst 0, 1) := by decide +kernel
theorem dX1_noise_18 : decode cX1_noise 18 = .ok (.istore 4, 2) := by decide +kernel
theorem dX1_noise_20 : decode cX1_noise 20 = .ok (.iconst 0, 1) := by decide +kernel
theorem dX1_noise_21 : decode cX1_noise 21 = .ok (.istore 5, 2) := by decide +kernel
theorem dX1_noise_23 : decode cX1_noise 23 = .ok (.iload 5, 2) := by decide +kernel
theorem dX1_noise_25 : decode cX1_noise 25 = .ok (.aload_n 0, 1) := by decide +kernel
theorem dX1_noise_26 : decode cX1_noise 26 = .ok (.getfield 87, 3) := by decide +kernel
theorem dX1_noise_29 : decode cX1_noise 29 = .ok (.aload_n 0, 1) := by decide +kernel
theorem dX1_noise_30 : decode cX1_noise 30 = .ok (.getfield 10, 3) := by decide +kernel
theorem dX1_noise_33 : decode cX1_noise 33 = .ok (.getfield 97, 3) := by decide +kernel
theorem dX1_noise_36 : decode cX1_noise 36 = .ok (.getfield 101, 3) := by decide +kernel
theorem dX1_noise_39 : decode cX1_noise 39 = .ok (.imul, 1) := by decide +kernel
theorem dX1_noise_40 : decode cX1_noise 40 = .ok (.if_icmp .ge 39, 3) := by decide +kernel
theorem dX1_noise_43 : decode cX1_noise 43 = .ok (.iload_n 3, 1) := by decide +kernel
theorem dX1_noise_44 : decode cX1_noise 44 = .ok (.ldc 135, 2) := by decide +kernel
theorem dX1_noise_46 : decode cX1_noise 46 = .ok (.imul, 1) := by decide +kernel
theorem dX1_noise_47 : decode cX1_noise 47 = .ok (.sipush 12345, 3) := by decide +kernel
theorem dX1_noise_50 : decode cX1_noise 50 = .ok (.iadd, 1) := by decide +kernel
theorem dX1_noise_51 : decode cX1_noise 51 = .ok (.istore_n 3, 1) := by decide +kernel
theorem dX1_noise_52 : decode cX1_noise 52 = .ok (.iload_n 3, 1) := by decide +kernel
theorem dX1_noise_53 : decode cX1_noise 53 = .ok (.bipush 16, 2) := by decide +kernel
theorem dX1_noise_55 : decode cX1_noise 55 = .ok (.iushr, 1) := by decide +kernel
theorem dX1_noise_56 : decode cX1_noise 56 = .ok (.sipush 1000, 3) := by decide +kernel
theorem dX1_noise_59 : decode cX1_noise 59 = .ok (.irem, 1) := by decide +kernel
theorem dX1_noise_60 : decode cX1_noise 60 = .ok (.iload_n 2, 1) := by decide +kernel
theorem dX1_noise_61 : decode cX1_noise 61 = .ok (.if_icmp .ge 12, 3) := by decide +kernel
theorem dX1_noise_64 : decode cX1_noise 64 = .ok (.aload_n 0, 1) := by decide +kernel
theorem dX1_noise_65 : decode cX1_noise 65 = .ok (.iload 5, 2) := by decide +kernel
theorem dX1_noise_67 : decode cX1_noise 67 = .ok (.invokevirtual 131, 3) := by decide +kernel
theorem dX1_noise_70 : decode cX1_noise 70 = .ok (.iinc 4 1, 3) := by decide +kernel
theorem dX1_noise_73 : decode cX1_noise 73 = .ok (.iinc 5 1, 3) := by decide +kernel
theorem dX1_noise_76 : decode cX1_noise 76 = .ok (.goto (-53), 3) := by decide +kernel
theorem dX1_noise_79 : decode cX1_noise 79 = .ok (.iload 4, 2) := by decide +kernel
theorem dX1_noise_81 : decode cX1_noise 81 = .ok (.ireturn, 1) := by decide +kernel
theorem dX1_syndrome_0 : decode cX1_syndrome 0 = .ok (.aload_n 0, 1) := by decide +kernel
theorem dX1_syndrome_1 : decode cX1_syndrome 1 = .ok (.invokevirtual 94, 3) := by decide +kernel
theorem dX1_syndrome_4 : decode cX1_syndrome 4 = .ok (.iload_n 1, 1) := by decide +kernel
theorem dX1_syndrome_5 : decode cX1_syndrome 5 = .ok (.iconst 0, 1) := by decide +kernel
theorem dX1_syndrome_6 : decode cX1_syndrome 6 = .ok (.aload_n 0, 1) := by decide +kernel
theorem dX1_syndrome_7 : decode cX1_syndrome 7 = .ok (.getfield 87, 3) := by decide +kernel
theorem dX1_syndrome_10 : decode cX1_syndrome 10 = .ok (.iconst 1, 1) := by decide +kernel
theorem dX1_syndrome_11 : decode cX1_syndrome 11 = .ok (.isub, 1) := by decide +kernel
theorem dX1_syndrome_12 : decode cX1_syndrome 12 = .ok (.invokestatic 70, 3) := by decide +kernel
theorem dX1_syndrome_15 : decode cX1_syndrome 15 = .ok (.ifCond .eq 24, 3) := by decide +kernel
theorem dX1_syndrome_18 : decode cX1_syndrome 18 = .ok (.iload_n 2, 1) := by decide +kernel
theorem dX1_syndrome_19 : decode cX1_syndrome 19 = .ok (.iconst 1, 1) := by decide +kernel
theorem dX1_syndrome_20 : decode cX1_syndrome 20 = .ok (.iconst 2, 1) := by decide +kernel
theorem dX1_syndrome_21 : decode cX1_syndrome 21 = .ok (.aload_n 0, 1) := by decide +kernel
theorem dX1_syndrome_22 : decode cX1_syndrome 22 = .ok (.getfield 10, 3) := by decide +kernel
theorem dX1_syndrome_25 : decode cX1_syndrome 25 = .ok (.getfield 136, 3) := by decide +kernel
theorem dX1_syndrome_28 : decode cX1_syndrome 28 = .ok (.imul, 1) := by decide +kernel
theorem dX1_syndrome_29 : decode cX1_syndrome 29 = .ok (.invokestatic 70, 3) := by decide +kernel
theorem dX1_syndrome_32 : decode cX1_syndrome 32 = .ok (.ifCond .eq 7, 3) := by decide +kernel
theorem dX1_syndrome_35 : decode cX1_syndrome 35 = .ok (.iconst 1, 1) := by decide +kernel
theorem dX1_syndrome_36 : decode cX1_syndrome 36 = .ok (.goto 4, 3) := by decide +kernel
theorem dX1_syndrome_39 : decode cX1_syndrome 39 = .ok (.iconst 0, 1) := by decide +kernel
theorem dX1_syndrome_40 : decode cX1_syndrome 40 = .ok (.invokestatic 119, 3) := by decide +kernel
theorem dX1_syndrome_43 : decode cX1_syndrome 43 = .ok (.aload_n 0, 1) := by decide +kernel
theorem dX1_syndrome_44 : decode cX1_syndrome 44 = .ok (.getfield 10, 3) := by decide +kernel
theorem dX1_syndrome_47 : decode cX1_syndrome 47 = .ok (.getfield 97, 3) := by decide +kernel
theorem dX1_syndrome_50 : decode cX1_syndrome 50 = .ok (.aload_n 0, 1) := by decide +kernel
theorem dX1_syndrome_51 : decode cX1_syndrome 51 = .ok (.getfield 23, 3) := by decide +kernel
theorem dX1_syndrome_54 : decode cX1_syndrome 54 = .ok (.iload_n 1, 1) := by decide +kernel
theorem dX1_syndrome_55 : decode cX1_syndrome 55 = .ok (.iaload, 1) := by decide +kernel
theorem dX1_syndrome_56 : decode cX1_syndrome 56 = .ok (.iload_n 2, 1) := by decide +kernel
theorem dX1_syndrome_57 : decode cX1_syndrome 57 = .ok (.invokevirtual 139, 3) := by decide +kernel
theorem dX1_syndrome_60 : decode cX1_syndrome 60 = .ok (.ireturn, 1) := by decide +kernel
theorem dX1_decode_0 : decode cX1_decode 0 = .ok (.aload_n 0, 1) := by decide +kernel
theorem dX1_decode_1 : decode cX1_decode 1 = .ok (.invokevirtual 94, 3) := by decide +kernel
theorem dX1_decode_4 : decode cX1_decode 4 = .ok (.iload_n 1, 1) := by decide +kernel
theorem dX1_decode_5 : decode cX1_decode 5 = .ok (.iconst 0, 1) := by decide +kernel
theorem dX1_decode_6 : decode cX1_decode 6 = .ok (.iconst 2, 1) := by decide +kernel
theorem dX1_decode_7 : decode cX1_decode 7 = .ok (.invokestatic 70, 3) := by decide +kernel
theorem dX1_decode_10 : decode cX1_decode 10 = .ok (.invokestatic 74, 3) := by decide +kernel
theorem dX1_decode_13 : decode cX1_decode 13 = .ok (.aload_n 0, 1) := by decide +kernel
theorem dX1_decode_14 : decode cX1_decode 14 = .ok (.aload_n 0, 1) := by decide +kernel
theorem dX1_decode_15 : decode cX1_decode 15 = .ok (.getfield 23, 3) := by decide +kernel
theorem dX1_decode_18 : decode cX1_decode 18 = .ok (.aload_n 0, 1) := by decide +kernel
theorem dX1_decode_19 : decode cX1_decode 19 = .ok (.getfield 45, 3) := by decide +kernel
theorem dX1_decode_22 : decode cX1_decode 22 = .ok (.iload_n 1, 1) := by decide +kernel
theorem dX1_decode_23 : decode cX1_decode 23 = .ok (.aaload, 1) := by decide +kernel
theorem dX1_decode_24 : decode cX1_decode 24 = .ok (.invokevirtual 145, 3) := by decide +kernel
theorem dX1_decode_27 : decode cX1_decode 27 = .ok (.ireturn, 1) := by decide +kernel
theorem dX1_mend_0 : decode cX1_mend 0 = .ok (.iconst 0, 1) := by decide +kernel
theorem dX1_mend_1 : decode cX1_mend 1 = .ok (.istore_n 3, 1) := by decide +kernel
theorem dX1_mend_2 : decode cX1_mend 2 = .ok (.iconst 0, 1) := by decide +kernel
theorem dX1_mend_3 : decode cX1_mend 3 = .ok (.istore 4, 2) := by decide +kernel
theorem dX1_mend_5 : decode cX1_mend 5 = .ok (.iload 4, 2) := by decide +kernel
theorem dX1_mend_7 : decode cX1_mend 7 = .ok (.aload_n 0, 1) := by decide +kernel
theorem dX1_mend_8 : decode cX1_mend 8 = .ok (.getfield 87, 3) := by decide +kernel
theorem dX1_mend_11 : decode cX1_mend 11 = .ok (.if_icmp .ge 46, 3) := by decide +kernel
theorem dX1_mend_14 : decode cX1_mend 14 = .ok (.aload_n 0, 1) := by decide +kernel
theorem dX1_mend_15 : decode cX1_mend 15 = .ok (.getfield 26, 3) := by decide +kernel
theorem dX1_mend_18 : decode cX1_mend 18 = .ok (.iload 4, 2) := by decide +kernel
theorem dX1_mend_20 : decode cX1_mend 20 = .ok (.aload_n 0, 1) := by decide +kernel
theorem dX1_mend_21 : decode cX1_mend 21 = .ok (.getfield 10, 3) := by decide +kernel
theorem dX1_mend_24 : decode cX1_mend 24 = .ok (.aload_n 1, 1) := by decide +kernel
theorem dX1_mend_25 : decode cX1_mend 25 = .ok (.iload 4, 2) := by decide +kernel
theorem dX1_mend_27 : decode cX1_mend 27 = .ok (.iaload, 1) := by decide +kernel
theorem dX1_mend_28 : decode cX1_mend 28 = .ok (.aload_n 2, 1) := by decide +kernel
theorem dX1_mend_29 : decode cX1_mend 29 = .ok (.invokevirtual 142, 3) := by decide +kernel
theorem dX1_mend_32 : decode cX1_mend 32 = .ok (.iastore, 1) := by decide +kernel
theorem dX1_mend_33 : decode cX1_mend 33 = .ok (.iload_n 3, 1) := by decide +kernel
theorem dX1_mend_34 : decode cX1_mend 34 = .ok (.aload_n 0, 1) := by decide +kernel
theorem dX1_mend_35 : decode cX1_mend 35 = .ok (.getfield 26, 3) := by decide +kernel
theorem dX1_mend_38 : decode cX1_mend 38 = .ok (.iload 4, 2) := by decide +kernel
theorem dX1_mend_40 : decode cX1_mend 40 = .ok (.iaload, 1) := by decide +kernel
theorem dX1_mend_41 : decode cX1_mend 41 = .ok (.aload_n 1, 1) := by decide +kernel
theorem dX1_mend_42 : decode cX1_mend 42 = .ok (.iload 4, 2) := by decide +kernel
theorem dX1_mend_44 : decode cX1_mend 44 = .ok (.iaload, 1) := by decide +kernel
theorem dX1_mend_45 : decode cX1_mend 45 = .ok (.ixor, 1) := by decide +kernel
theorem dX1_mend_46 : decode cX1_mend 46 = .ok (.invokestatic 126, 3) := by decide +kernel
theorem dX1_mend_49 : decode cX1_mend 49 = .ok (.iadd, 1) := by decide +kernel
theorem dX1_mend_50 : decode cX1_mend 50 = .ok (.istore_n 3, 1) := by decide +kernel
theorem dX1_mend_51 : decode cX1_mend 51 = .ok (.iinc 4 1, 3) := by decide +kernel
theorem dX1_mend_54 : decode cX1_mend 54 = .ok (.goto (-49), 3) := by decide +kernel
theorem dX1_mend_57 : decode cX1_mend 57 = .ok (.iconst 0, 1) := by decide +kernel
theorem dX1_mend_58 : decode cX1_mend 58 = .ok (.istore 4, 2) := by decide +kernel
theorem dX1_mend_60 : decode cX1_mend 60 = .ok (.iload 4, 2) := by decide +kernel
theorem dX1_mend_62 : decode cX1_mend 62 = .ok (.aload_n 0, 1) := by decide +kernel
theorem dX1_mend_63 : decode cX1_mend 63 = .ok (.getfield 87, 3) := by decide +kernel
theorem dX1_mend_66 : decode cX1_mend 66 = .ok (.if_icmp .ge 56, 3) := by decide +kernel
theorem dX1_mend_69 : decode cX1_mend 69 = .ok (.aload_n 0, 1) := by decide +kernel
theorem dX1_mend_70 : decode cX1_mend 70 = .ok (.getfield 23, 3) := by decide +kernel
theorem dX1_mend_73 : decode cX1_mend 73 = .ok (.iload 4, 2) := by decide +kernel
theorem dX1_mend_75 : decode cX1_mend 75 = .ok (.aload_n 0, 1) := by decide +kernel
theorem dX1_mend_76 : decode cX1_mend 76 = .ok (.getfield 26, 3) := by decide +kernel
theorem dX1_mend_79 : decode cX1_mend 79 = .ok (.iload 4, 2) := by decide +kernel
theorem dX1_mend_81 : decode cX1_mend 81 = .ok (.iaload, 1) := by decide +kernel
theorem dX1_mend_82 : decode cX1_mend 82 = .ok (.iastore, 1) := by decide +kernel
theorem dX1_mend_83 : decode cX1_mend 83 = .ok (.aload_n 0, 1) := by decide +kernel
theorem dX1_mend_84 : decode cX1_mend 84 = .ok (.getfield 19, 3) := by decide +kernel
theorem dX1_mend_87 : decode cX1_mend 87 = .ok (.iload 4, 2) := by decide +kernel
theorem dX1_mend_89 : decode cX1_mend 89 = .ok (.aload_n 0, 1) := by decide +kernel
theorem dX1_mend_90 : decode cX1_mend 90 = .ok (.getfield 26, 3) := by decide +kernel
theorem dX1_mend_93 : decode cX1_mend 93 = .ok (.iload 4, 2) := by decide +kernel
theorem dX1_mend_95 : decode cX1_mend 95 = .ok (.iaload, 1) := by decide +kernel
theorem dX1_mend_96 : decode cX1_mend 96 = .ok (.aload_n 0, 1) := by decide +kernel
theorem dX1_mend_97 : decode cX1_mend 97 = .ok (.getfield 10, 3) := by decide +kernel
theorem dX1_mend_100 : decode cX1_mend 100 = .ok (.getfield 97, 3) := by decide +kernel
theorem dX1_mend_103 : decode cX1_mend 103 = .ok (.getfield 101, 3) := by decide +kernel
theorem dX1_mend_106 : decode cX1_mend 106 = .ok (.aload_n 0, 1) := by decide +kernel
theorem dX1_mend_107 : decode cX1_mend 107 = .ok (.getfield 10, 3) := by decide +kernel
theorem dX1_mend_110 : decode cX1_mend 110 = .ok (.getfield 91, 3) := by decide +kernel
theorem dX1_mend_113 : decode cX1_mend 113 = .ok (.isub, 1) := by decide +kernel
theorem dX1_mend_114 : decode cX1_mend 114 = .ok (.ishr, 1) := by decide +kernel
theorem dX1_mend_115 : decode cX1_mend 115 = .ok (.iastore, 1) := by decide +kernel
theorem dX1_mend_116 : decode cX1_mend 116 = .ok (.iinc 4 1, 3) := by decide +kernel
theorem dX1_mend_119 : decode cX1_mend 119 = .ok (.goto (-59), 3) := by decide +kernel
theorem dX1_mend_122 : decode cX1_mend 122 = .ok (.iload_n 3, 1) := by decide +kernel
theorem dX1_mend_123 : decode cX1_mend 123 = .ok (.ireturn, 1) := by decide +kernel
theorem dX1_save_0 : decode cX1_save 0 = .ok (.aload_n 0, 1) := by decide +kernel
theorem dX1_save_1 : decode cX1_save 1 = .ok (.invokevirtual 94, 3) := by decide +kernel
theorem dX1_save_4 : decode cX1_save 4 = .ok (.iload_n 1, 1) := by decide +kernel
theorem dX1_save_5 : decode cX1_save 5 = .ok (.iconst 0, 1) := by decide +kernel
theorem dX1_save_6 : decode cX1_save 6 = .ok (.iconst 3, 1) := by decide +kernel
theorem dX1_save_7 : decode cX1_save 7 = .ok (.invokestatic 70, 3) := by decide +kernel
theorem dX1_save_10 : decode cX1_save 10 = .ok (.invokestatic 119, 3) := by decide +kernel
theorem dX1_save_13 : decode cX1_save 13 = .ok (.aload_n 0, 1) := by decide +kernel
theorem dX1_save_14 : decode cX1_save 14 = .ok (.getfield 23, 3) := by decide +kernel
theorem dX1_save_17 : decode cX1_save 17 = .ok (.iconst 0, 1) := by decide +kernel
theorem dX1_save_18 : decode cX1_save 18 = .ok (.aload_n 0, 1) := by decide +kernel
theorem dX1_save_19 : decode cX1_save 19 = .ok (.getfield 31, 3) := by decide +kernel
theorem dX1_save_22 : decode cX1_save 22 = .ok (.iload_n 1, 1) := by decide +kernel
theorem dX1_save_23 : decode cX1_save 23 = .ok (.aaload, 1) := by decide +kernel
theorem dX1_save_24 : decode cX1_save 24 = .ok (.iconst 0, 1) := by decide +kernel
theorem dX1_save_25 : decode cX1_save 25 = .ok (.iconst 4, 1) := by decide +kernel
theorem dX1_save_26 : decode cX1_save 26 = .ok (.invokestatic 149, 3) := by decide +kernel
theorem dX1_save_29 : decode cX1_save 29 = .ok (.return_, 1) := by decide +kernel
theorem dX1_load_0 : decode cX1_load 0 = .ok (.aload_n 0, 1) := by decide +kernel
theorem dX1_load_1 : decode cX1_load 1 = .ok (.invokevirtual 94, 3) := by decide +kernel
theorem dX1_load_4 : decode cX1_load 4 = .ok (.iload_n 1, 1) := by decide +kernel
theorem dX1_load_5 : decode cX1_load 5 = .ok (.iconst 0, 1) := by decide +kernel
theorem dX1_load_6 : decode cX1_load 6 = .ok (.iconst 3, 1) := by decide +kernel
theorem dX1_load_7 : decode cX1_load 7 = .ok (.invokestatic 70, 3) := by decide +kernel
theorem dX1_load_10 : decode cX1_load 10 = .ok (.invokestatic 119, 3) := by decide +kernel
theorem dX1_load_13 : decode cX1_load 13 = .ok (.aload_n 0, 1) := by decide +kernel
theorem dX1_load_14 : decode cX1_load 14 = .ok (.aload_n 0, 1) := by decide +kernel
theorem dX1_load_15 : decode cX1_load 15 = .ok (.getfield 31, 3) := by decide +kernel
theorem dX1_load_18 : decode cX1_load 18 = .ok (.iload_n 1, 1) := by decide +kernel
theorem dX1_load_19 : decode cX1_load 19 = .ok (.aaload, 1) := by decide +kernel
theorem dX1_load_20 : decode cX1_load 20 = .ok (.aload_n 0, 1) := by decide +kernel
theorem dX1_load_21 : decode cX1_load 21 = .ok (.getfield 45, 3) := by decide +kernel
theorem dX1_load_24 : decode cX1_load 24 = .ok (.iload_n 1, 1) := by decide +kernel
theorem dX1_load_25 : decode cX1_load 25 = .ok (.iconst 3, 1) := by decide +kernel
theorem dX1_load_26 : decode cX1_load 26 = .ok (.irem, 1) := by decide +kernel
theorem dX1_load_27 : decode cX1_load 27 = .ok (.aaload, 1) := by decide +kernel
theorem dX1_load_28 : decode cX1_load 28 = .ok (.invokevirtual 145, 3) := by decide +kernel
theorem dX1_load_31 : decode cX1_load 31 = .ok (.istore_n 2, 1) := by decide +kernel
theorem dX1_load_32 : decode cX1_load 32 = .ok (.aload_n 0, 1) := by decide +kernel
theorem dX1_load_33 : decode cX1_load 33 = .ok (.getfield 23, 3) := by decide +kernel
theorem dX1_load_36 : decode cX1_load 36 = .ok (.iconst 0, 1) := by decide +kernel
theorem dX1_load_37 : decode cX1_load 37 = .ok (.aload_n 0, 1) := by decide +kernel
theorem dX1_load_38 : decode cX1_load 38 = .ok (.getfield 31, 3) := by decide +kernel
theorem dX1_load_41 : decode cX1_load 41 = .ok (.iload_n 1, 1) := by decide +kernel
theorem dX1_load_42 : decode cX1_load 42 = .ok (.aaload, 1) := by decide +kernel
theorem dX1_load_43 : decode cX1_load 43 = .ok (.iconst 0, 1) := by decide +kernel
theorem dX1_load_44 : decode cX1_load 44 = .ok (.iconst 4, 1) := by decide +kernel
theorem dX1_load_45 : decode cX1_load 45 = .ok (.invokestatic 149, 3) := by decide +kernel
theorem dX1_load_48 : decode cX1_load 48 = .ok (.iload_n 2, 1) := by decide +kernel
theorem dX1_load_49 : decode cX1_load 49 = .ok (.ireturn, 1) := by decide +kernel
