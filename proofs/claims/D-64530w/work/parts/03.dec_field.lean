set_option maxRecDepth 100000
theorem dJ10_init_0 : decode cJ10_init 0 = .ok (.return_, 1) := by decide +kernel
theorem dJ0_init_0 : decode cJ0_init 0 = .ok (.aload_n 0, 1) := by decide +kernel
theorem dJ0_init_1 : decode cJ0_init 1 = .ok (.invokespecial 1, 3) := by decide +kernel
theorem dJ0_init_4 : decode cJ0_init 4 = .ok (.aload_n 0, 1) := by decide +kernel
theorem dJ0_init_5 : decode cJ0_init 5 = .ok (.aload_n 0, 1) := by decide +kernel
theorem dJ0_init_6 : decode cJ0_init 6 = .ok (.putfield 7, 3) := by decide +kernel
theorem dJ0_init_9 : decode cJ0_init 9 = .ok (.aload_n 0, 1) := by decide +kernel
theorem dJ0_init_10 : decode cJ0_init 10 = .ok (.getstatic 13, 3) := by decide +kernel
theorem dJ0_init_13 : decode cJ0_init 13 = .ok (.putfield 17, 3) := by decide +kernel
theorem dJ0_init_16 : decode cJ0_init 16 = .ok (.aload_n 0, 1) := by decide +kernel
theorem dJ0_init_17 : decode cJ0_init 17 = .ok (.getstatic 20, 3) := by decide +kernel
theorem dJ0_init_20 : decode cJ0_init 20 = .ok (.putfield 24, 3) := by decide +kernel
theorem dJ0_init_23 : decode cJ0_init 23 = .ok (.aload_n 0, 1) := by decide +kernel
theorem dJ0_init_24 : decode cJ0_init 24 = .ok (.invokevirtual 27, 3) := by decide +kernel
theorem dJ0_init_27 : decode cJ0_init 27 = .ok (.pop, 1) := by decide +kernel
theorem dJ0_init_28 : decode cJ0_init 28 = .ok (.aload_n 0, 1) := by decide +kernel
theorem dJ0_init_29 : decode cJ0_init 29 = .ok (.aload_n 1, 1) := by decide +kernel
theorem dJ0_init_30 : decode cJ0_init 30 = .ok (.putfield 31, 3) := by decide +kernel
theorem dJ0_init_33 : decode cJ0_init 33 = .ok (.return_, 1) := by decide +kernel
theorem dJ0_init_2_0 : decode cJ0_init_2 0 = .ok (.aload_n 0, 1) := by decide +kernel
theorem dJ0_init_2_1 : decode cJ0_init_2 1 = .ok (.invokespecial 1, 3) := by decide +kernel
theorem dJ0_init_2_4 : decode cJ0_init_2 4 = .ok (.aload_n 0, 1) := by decide +kernel
theorem dJ0_init_2_5 : decode cJ0_init_2 5 = .ok (.aload_n 0, 1) := by decide +kernel
theorem dJ0_init_2_6 : decode cJ0_init_2 6 = .ok (.putfield 7, 3) := by decide +kernel
theorem dJ0_init_2_9 : decode cJ0_init_2 9 = .ok (.aload_n 0, 1) := by decide +kernel
theorem dJ0_init_2_10 : decode cJ0_init_2 10 = .ok (.getstatic 13, 3) := by decide +kernel
theorem dJ0_init_2_13 : decode cJ0_init_2 13 = .ok (.putfield 17, 3) := by decide +kernel
theorem dJ0_init_2_16 : decode cJ0_init_2 16 = .ok (.aload_n 0, 1) := by decide +kernel
theorem dJ0_init_2_17 : decode cJ0_init_2 17 = .ok (.getstatic 20, 3) := by decide +kernel
theorem dJ0_init_2_20 : decode cJ0_init_2 20 = .ok (.putfield 24, 3) := by decide +kernel
theorem dJ0_init_2_23 : decode cJ0_init_2 23 = .ok (.aload_n 0, 1) := by decide +kernel
theorem dJ0_init_2_24 : decode cJ0_init_2 24 = .ok (.invokevirtual 27, 3) := by decide +kernel
theorem dJ0_init_2_27 : decode cJ0_init_2 27 = .ok (.pop, 1) := by decide +kernel
theorem dJ0_init_2_28 : decode cJ0_init_2 28 = .ok (.return_, 1) := by decide +kernel
theorem dJ1_init_0 : decode cJ1_init 0 = .ok (.aload_n 0, 1) := by decide +kernel
theorem dJ1_init_1 : decode cJ1_init 1 = .ok (.aload_n 1, 1) := by decide +kernel
theorem dJ1_init_2 : decode cJ1_init 2 = .ok (.invokespecial 7, 3) := by decide +kernel
theorem dJ1_init_5 : decode cJ1_init 5 = .ok (.return_, 1) := by decide +kernel
theorem dJ2_init_0 : decode cJ2_init 0 = .ok (.aload_n 0, 1) := by decide +kernel
theorem dJ2_init_1 : decode cJ2_init 1 = .ok (.aload_n 1, 1) := by decide +kernel
theorem dJ2_init_2 : decode cJ2_init 2 = .ok (.invokespecial 7, 3) := by decide +kernel
theorem dJ2_init_5 : decode cJ2_init 5 = .ok (.return_, 1) := by decide +kernel
theorem dJ3_init_0 : decode cJ3_init 0 = .ok (.aload_n 0, 1) := by decide +kernel
theorem dJ3_init_1 : decode cJ3_init 1 = .ok (.aload_n 1, 1) := by decide +kernel
theorem dJ3_init_2 : decode cJ3_init 2 = .ok (.invokespecial 7, 3) := by decide +kernel
theorem dJ3_init_5 : decode cJ3_init 5 = .ok (.return_, 1) := by decide +kernel
theorem dJ5_init_0 : decode cJ5_init 0 = .ok (.aload_n 0, 1) := by decide +kernel
theorem dJ5_init_1 : decode cJ5_init 1 = .ok (.aload_n 1, 1) := by decide +kernel
theorem dJ5_init_2 : decode cJ5_init 2 = .ok (.invokespecial 7, 3) := by decide +kernel
theorem dJ5_init_5 : decode cJ5_init 5 = .ok (.return_, 1) := by decide +kernel
theorem dJ6_init_0 : decode cJ6_init 0 = .ok (.aload_n 0, 1) := by decide +kernel
theorem dJ6_init_1 : decode cJ6_init 1 = .ok (.aload_n 1, 1) := by decide +kernel
theorem dJ6_init_2 : decode cJ6_init 2 = .ok (.invokespecial 7, 3) := by decide +kernel
theorem dJ6_init_5 : decode cJ6_init 5 = .ok (.return_, 1) := by decide +kernel
theorem dJ7_init_0 : decode cJ7_init 0 = .ok (.aload_n 0, 1) := by decide +kernel
theorem dJ7_init_1 : decode cJ7_init 1 = .ok (.aload_n 1, 1) := by decide +kernel
theorem dJ7_init_2 : decode cJ7_init 2 = .ok (.invokespecial 7, 3) := by decide +kernel
theorem dJ7_init_5 : decode cJ7_init 5 = .ok (.return_, 1) := by decide +kernel
theorem dJ8_init_0 : decode cJ8_init 0 = .ok (.aload_n 0, 1) := by decide +kernel
theorem dJ8_init_1 : decode cJ8_init 1 = .ok (.aload_n 1, 1) := by decide +kernel
theorem dJ8_init_2 : decode cJ8_init 2 = .ok (.invokespecial 7, 3) := by decide +kernel
theorem dJ8_init_5 : decode cJ8_init 5 = .ok (.return_, 1) := by decide +kernel
theorem dJ9_bitCount_0 : decode cJ9_bitCount 0 = .ok (.iload_n 0, 1) := by decide +kernel
theorem dJ9_bitCount_1 : decode cJ9_bitCount 1 = .ok (.iload_n 0, 1) := by decide +kernel
theorem dJ9_bitCount_2 : decode cJ9_bitCount 2 = .ok (.iconst 1, 1) := by decide +kernel
theorem dJ9_bitCount_3 : decode cJ9_bitCount 3 = .ok (.iushr, 1) := by decide +kernel
theorem dJ9_bitCount_4 : decode cJ9_bitCount 4 = .ok (.ldc_w 265, 3) := by decide +kernel
theorem dJ9_bitCount_7 : decode cJ9_bitCount 7 = .ok (.iand, 1) := by decide +kernel
theorem dJ9_bitCount_8 : decode cJ9_bitCount 8 = .ok (.isub, 1) := by decide +kernel
theorem dJ9_bitCount_9 : decode cJ9_bitCount 9 = .ok (.istore_n 0, 1) := by decide +kernel
theorem dJ9_bitCount_10 : decode cJ9_bitCount 10 = .ok (.iload_n 0, 1) := by decide +kernel
theorem dJ9_bitCount_11 : decode cJ9_bitCount 11 = .ok (.ldc_w 266, 3) := by decide +kernel
theorem dJ9_bitCount_14 : decode cJ9_bitCount 14 = .ok (.iand, 1) := by decide +kernel
theorem dJ9_bitCount_15 : decode cJ9_bitCount 15 = .ok (.iload_n 0, 1) := by decide +kernel
theorem dJ9_bitCount_16 : decode cJ9_bitCount 16 = .ok (.iconst 2, 1) := by decide +kernel
theorem dJ9_bitCount_17 : decode cJ9_bitCount 17 = .ok (.iushr, 1) := by decide +kernel
theorem dJ9_bitCount_18 : decode cJ9_bitCount 18 = .ok (.ldc_w 266, 3) := by decide +kernel
theorem dJ9_bitCount_21 : decode cJ9_bitCount 21 = .ok (.iand, 1) := by decide +kernel
theorem dJ9_bitCount_22 : decode cJ9_bitCount 22 = .ok (.iadd, 1) := by decide +kernel
theorem dJ9_bitCount_23 : decode cJ9_bitCount 23 = .ok (.istore_n 0, 1) := by decide +kernel
theorem dJ9_bitCount_24 : decode cJ9_bitCount 24 = .ok (.iload_n 0, 1) := by decide +kernel
theorem dJ9_bitCount_25 : decode cJ9_bitCount 25 = .ok (.iload_n 0, 1) := by decide +kernel
theorem dJ9_bitCount_26 : decode cJ9_bitCount 26 = .ok (.iconst 4, 1) := by decide +kernel
theorem dJ9_bitCount_27 : decode cJ9_bitCount 27 = .ok (.iushr, 1) := by decide +kernel
theorem dJ9_bitCount_28 : decode cJ9_bitCount 28 = .ok (.iadd, 1) := by decide +kernel
theorem dJ9_bitCount_29 : decode cJ9_bitCount 29 = .ok (.ldc_w 267, 3) := by decide +kernel
theorem dJ9_bitCount_32 : decode cJ9_bitCount 32 = .ok (.iand, 1) := by decide +kernel
theorem dJ9_bitCount_33 : decode cJ9_bitCount 33 = .ok (.istore_n 0, 1) := by decide +kernel
theorem dJ9_bitCount_34 : decode cJ9_bitCount 34 = .ok (.iload_n 0, 1) := by decide +kernel
theorem dJ9_bitCount_35 : decode cJ9_bitCount 35 = .ok (.iload_n 0, 1) := by decide +kernel
theorem dJ9_bitCount_36 : decode cJ9_bitCount 36 = .ok (.bipush 8, 2) := by decide +kernel
theorem dJ9_bitCount_38 : decode cJ9_bitCount 38 = .ok (.iushr, 1) := by decide +kernel
theorem dJ9_bitCount_39 : decode cJ9_bitCount 39 = .ok (.iadd, 1) := by decide +kernel
theorem dJ9_bitCount_40 : decode cJ9_bitCount 40 = .ok (.istore_n 0, 1) := by decide +kernel
theorem dJ9_bitCount_41 : decode cJ9_bitCount 41 = .ok (.iload_n 0, 1) := by decide +kernel
theorem dJ9_bitCount_42 : decode cJ9_bitCount 42 = .ok (.iload_n 0, 1) := by decide +kernel
theorem dJ9_bitCount_43 : decode cJ9_bitCount 43 = .ok (.bipush 16, 2) := by decide +kernel
theorem dJ9_bitCount_45 : decode cJ9_bitCount 45 = .ok (.iushr, 1) := by decide +kernel
theorem dJ9_bitCount_46 : decode cJ9_bitCount 46 = .ok (.iadd, 1) := by decide +kernel
theorem dJ9_bitCount_47 : decode cJ9_bitCount 47 = .ok (.istore_n 0, 1) := by decide +kernel
theorem dJ9_bitCount_48 : decode cJ9_bitCount 48 = .ok (.iload_n 0, 1) := by decide +kernel
theorem dJ9_bitCount_49 : decode cJ9_bitCount 49 = .ok (.bipush 63, 2) := by decide +kernel
theorem dJ9_bitCount_51 : decode cJ9_bitCount 51 = .ok (.iand, 1) := by decide +kernel
theorem dJ9_bitCount_52 : decode cJ9_bitCount 52 = .ok (.ireturn, 1) := by decide +kernel
theorem dX3_init_0 : decode cX3_init 0 = .ok (.aload_n 0, 1) := by decide +kernel
theorem dX3_init_1 : decode cX3_init 1 = .ok (.invokespecial 3, 3) := by decide +kernel
theorem dX3_init_4 : decode cX3_init 4 = .ok (.aload_n 0, 1) := by decide +kernel
theorem dX3_init_5 : decode cX3_init 5 = .ok (.bipush 62, 2) := by decide +kernel
theorem dX3_init_7 : decode cX3_init 7 = .ok (.newarray .int, 2) := by decide +kernel
theorem dX3_init_9 : decode cX3_init 9 = .ok (.putfield 9, 3) := by decide +kernel
theorem dX3_init_12 : decode cX3_init 12 = .ok (.aload_n 0, 1) := by decide +kernel
theorem dX3_init_13 : decode cX3_init 13 = .ok (.bipush 32, 2) := by decide +kernel
theorem dX3_init_15 : decode cX3_init 15 = .ok (.newarray .int, 2) := by decide +kernel
theorem dX3_init_17 : decode cX3_init 17 = .ok (.putfield 15, 3) := by decide +kernel
theorem dX3_init_20 : decode cX3_init 20 = .ok (.return_, 1) := by decide +kernel
theorem dX3_make_0 : decode cX3_make 0 = .ok (.iload_n 1, 1) := by decide +kernel
theorem dX3_make_1 : decode cX3_make 1 = .ok (.invokestatic 18, 3) := by decide +kernel
theorem dX3_make_4 : decode cX3_make 4 = .ok (.istore_n 2, 1) := by decide +kernel
theorem dX3_make_5 : decode cX3_make 5 = .ok (.aload_n 0, 1) := by decide +kernel
theorem dX3_make_6 : decode cX3_make 6 = .ok (.iconst 1, 1) := by decide +kernel
theorem dX3_make_7 : decode cX3_make 7 = .ok (.iload_n 2, 1) := by decide +kernel
theorem dX3_make_8 : decode cX3_make 8 = .ok (.ishl, 1) := by decide +kernel
theorem dX3_make_9 : decode cX3_make 9 = .ok (.iconst 1, 1) := by decide +kernel
theorem dX3_make_10 : decode cX3_make 10 = .ok (.isub, 1) := by decide +kernel
theorem dX3_make_11 : decode cX3_make 11 = .ok (.putfield 22, 3) := by decide +kernel
theorem dX3_make_14 : decode cX3_make 14 = .ok (.iconst 1, 1) := by decide +kernel
theorem dX3_make_15 : decode cX3_make 15 = .ok (.istore_n 3, 1) := by decide +kernel
theorem dX3_make_16 : decode cX3_make 16 = .ok (.iconst 0, 1) := by decide +kernel
theorem dX3_make_17 : decode cX3_make 17 = .ok (.istore 4, 2) := by decide +kernel
theorem dX3_make_19 : decode cX3_make 19 = .ok (.iload 4, 2) := by decide +kernel
theorem dX3_make_21 : decode cX3_make 21 = .ok (.aload_n 0, 1) := by decide +kernel
theorem dX3_make_22 : decode cX3_make 22 = .ok (.getfield 22, 3) := by decide +kernel
theorem dX3_make_25 : decode cX3_make 25 = .ok (.if_icmp .ge 57, 3) := by decide +kernel
theorem dX3_make_28 : decode cX3_make 28 = .ok (.iload 4, 2) := by decide +kernel
theorem dX3_make_30 : decode cX3_make 30 = .ok (.ifCond .le 10, 3) := by decide +kernel
theorem dX3_make_33 : decode cX3_make 33 = .ok (.iload_n 3, 1) := by decide +kernel
theorem dX3_make_34 : decode cX3_make 34 = .ok (.iconst 1, 1) := by decide +kernel
theorem dX3_make_35 : decode cX3_make 35 = .ok (.if_icmp .ne 5, 3) := by decide +kernel
theorem dX3_make_38 : decode cX3_make 38 = .ok (.iconst 0, 1) := by decide +kernel
theorem dX3_make_39 : decode cX3_make 39 = .ok (.ireturn, 1) := by decide +kernel
theorem dX3_make_40 : decode cX3_make 40 = .ok (.aload_n 0, 1) := by decide +kernel
theorem dX3_make_41 : decode cX3_make 41 = .ok (.getfield 9, 3) := by decide +kernel
theorem dX3_make_44 : decode cX3_make 44 = .ok (.iload 4, 2) := by decide +kernel
theorem dX3_make_46 : decode cX3_make 46 = .ok (.iload_n 3, 1) := by decide +kernel
theorem dX3_make_47 : decode cX3_make 47 = .ok (.iastore, 1) := by decide +kernel
theorem dX3_make_48 : decode cX3_make 48 = .ok (.aload_n 0, 1) := by decide +kernel
theorem dX3_make_49 : decode cX3_make 49 = .ok (.getfield 15, 3) := by decide +kernel
theorem dX3_make_52 : decode cX3_make 52 = .ok (.iload_n 3, 1) := by decide +kernel
theorem dX3_make_53 : decode cX3_make 53 = .ok (.iload 4, 2) := by decide +kernel
theorem dX3_make_55 : decode cX3_make 55 = .ok (.iastore, 1) := by decide +kernel
theorem dX3_make_56 : decode cX3_make 56 = .ok (.iload_n 3, 1) := by decide +kernel
theorem dX3_make_57 : decode cX3_make 57 = .ok (.iconst 1, 1) := by decide +kernel
theorem dX3_make_58 : decode cX3_make 58 = .ok (.ishl, 1) := by decide +kernel
theorem dX3_make_59 : decode cX3_make 59 = .ok (.istore_n 3, 1) := by decide +kernel
theorem dX3_make_60 : decode cX3_make 60 = .ok (.iload_n 3, 1) := by decide +kernel
theorem dX3_make_61 : decode cX3_make 61 = .ok (.iload_n 3, 1) := by decide +kernel
theorem dX3_make_62 : decode cX3_make 62 = .ok (.aload_n 0, 1) := by decide +kernel
theorem dX3_make_63 : decode cX3_make 63 = .ok (.getfield 22, 3) := by decide +kernel
theorem dX3_make_66 : decode cX3_make 66 = .ok (.if_icmp .le 7, 3) := by decide +kernel
theorem dX3_make_69 : decode cX3_make 69 = .ok (.iload_n 1, 1) := by decide +kernel
theorem dX3_make_70 : decode cX3_make 70 = .ok (.goto 4, 3) := by decide +kernel
theorem dX3_make_73 : decode cX3_make 73 = .ok (.iconst 0, 1) := by decide +kernel
theorem dX3_make_74 : decode cX3_make 74 = .ok (.ixor, 1) := by decide +kernel
theorem dX3_make_75 : decode cX3_make 75 = .ok (.istore_n 3, 1) := by decide +kernel
theorem dX3_make_76 : decode cX3_make 76 = .ok (.iinc 4 1, 3) := by decide +kernel
theorem dX3_make_79 : decode cX3_make 79 = .ok (.goto (-60), 3) := by decide +kernel
theorem dX3_make_82 : decode cX3_make 82 = .ok (.aload_n 0, 1) := by decide +kernel
theorem dX3_make_83 : decode cX3_make 83 = .ok (.getfield 22, 3) := by decide +kernel
theorem dX3_make_86 : decode cX3_make 86 = .ok (.istore 4, 2) := by decide +kernel
theorem dX3_make_88 : decode cX3_make 88 = .ok (.iload 4, 2) := by decide +kernel
theorem dX3_make_90 : decode cX3_make 90 = .ok (.iconst 2, 1) := by decide +kernel
theorem dX3_make_91 : decode cX3_make 91 = .ok (.aload_n 0, 1) := by decide +kernel
theorem dX3_make_92 : decode cX3_make 92 = .ok (.getfield 22, 3) := by decide +kernel
theorem dX3_make_95 : decode cX3_make 95 = .ok (.imul, 1) := by decide +kernel
theorem dX3_make_96 : decode cX3_make 96 = .ok (.if_icmp .ge 28, 3) := by decide +kernel
theorem dX3_make_99 : decode cX3_make 99 = .ok (.aload_n 0, 1) := by decide +kernel
theorem dX3_make_100 : decode cX3_make 100 = .ok (.getfield 9, 3) := by decide +kernel
theorem dX3_make_103 : decode cX3_make 103 = .ok (.iload 4, 2) := by decide +kernel
theorem dX3_make_105 : decode cX3_make 105 = .ok (.aload_n 0, 1) := by decide +kernel
theorem dX3_make_106 : decode cX3_make 106 = .ok (.getfield 9, 3) := by decide +kernel
theorem dX3_make_109 : decode cX3_make 109 = .ok (.iload 4, 2) := by decide +kernel
theorem dX3_make_111 : decode cX3_make 111 = .ok (.aload_n 0, 1) := by decide +kernel
theorem dX3_make_112 : decode cX3_make 112 = .ok (.getfield 22, 3) := by decide +kernel
theorem dX3_make_115 : decode cX3_make 115 = .ok (.isub, 1) := by decide +kernel
theorem dX3_make_116 : decode cX3_make 116 = .ok (.iaload, 1) := by decide +kernel
theorem dX3_make_117 : decode cX3_make 117 = .ok (.iastore, 1) := by decide +kernel
theorem dX3_make_118 : decode cX3_make 118 = .ok (.iinc 4 1, 3) := by decide +kernel
theorem dX3_make_121 : decode cX3_make 121 = .ok (.goto (-33), 3) := by decide +kernel
theorem dX3_make_124 : decode cX3_make 124 = .ok (.iload_n 3, 1) := by decide +kernel
theorem dX3_make_125 : decode cX3_make 125 = .ok (.iconst 1, 1) := by decide +kernel
theorem dX3_make_126 : decode cX3_make 126 = .ok (.if_icmp .ne 7, 3) := by decide +kernel
theorem dX3_make_129 : decode cX3_make 129 = .ok (.iconst 1, 1) := by decide +kernel
theorem dX3_make_130 : decode cX3_make 130 = .ok (.goto 4, 3) := by decide +kernel
theorem dX3_make_133 : decode cX3_make 133 = .ok (.iconst 0, 1) := by decide +kernel
theorem dX3_make_134 : decode cX3_make 134 = .ok (.ireturn, 1) := by decide +kernel
theorem dX3_at_0 : decode cX3_at 0 = .ok (.iconst 0, 1) := by decide +kernel
theorem dX3_at_1 : decode cX3_at 1 = .ok (.istore_n 3, 1) := by decide +kernel
theorem dX3_at_2 : decode cX3_at 2 = .ok (.iconst 0, 1) := by decide +kernel
theorem dX3_at_3 : decode cX3_at 3 = .ok (.istore 4, 2) := by decide +kernel
theorem dX3_at_5 : decode cX3_at 5 = .ok (.iload 4, 2) := by decide +kernel
theorem dX3_at_7 : decode cX3_at 7 = .ok (.aload_n 0, 1) := by decide +kernel
theorem dX3_at_8 : decode cX3_at 8 = .ok (.getfield 22, 3) := by decide +kernel
theorem dX3_at_11 : decode cX3_at 11 = .ok (.if_icmp .ge 39, 3) := by decide +kernel
theorem dX3_at_14 : decode cX3_at 14 = .ok (.iload_n 3, 1) := by decide +kernel
theorem dX3_at_15 : decode cX3_at 15 = .ok (.iload_n 1, 1) := by decide +kernel
theorem dX3_at_16 : decode cX3_at 16 = .ok (.iload 4, 2) := by decide +kernel
theorem dX3_at_18 : decode cX3_at 18 = .ok (.ishr, 1) := by decide +kernel
theorem dX3_at_19 : decode cX3_at 19 = .ok (.iconst 1, 1) := by decide +kernel
theorem dX3_at_20 : decode cX3_at 20 = .ok (.iand, 1) := by decide +kernel
theorem dX3_at_21 : decode cX3_at 21 = .ok (.ifCond .ne 7, 3) := by decide +kernel
theorem dX3_at_24 : decode cX3_at 24 = .ok (.iconst 0, 1) := by decide +kernel
theorem dX3_at_25 : decode cX3_at 25 = .ok (.goto 17, 3) := by decide +kernel
theorem dX3_at_28 : decode cX3_at 28 = .ok (.aload_n 0, 1) := by decide +kernel
theorem dX3_at_29 : decode cX3_at 29 = .ok (.getfield 9, 3) := by decide +kernel
theorem dX3_at_32 : decode cX3_at 32 = .ok (.iload 4, 2) := by decide +kernel
theorem dX3_at_34 : decode cX3_at 34 = .ok (.iload_n 2, 1) := by decide +kernel
theorem dX3_at_35 : decode cX3_at 35 = .ok (.imul, 1) := by decide +kernel
theorem dX3_at_36 : decode cX3_at 36 = .ok (.aload_n 0, 1) := by decide +kernel
theorem dX3_at_37 : decode cX3_at 37 = .ok (.getfield 22, 3) := by decide +kernel
theorem dX3_at_40 : decode cX3_at 40 = .ok (.irem, 1) := by decide +kernel
theorem dX3_at_41 : decode cX3_at 41 = .ok (.iaload, 1) := by decide +kernel
theorem dX3_at_42 : decode cX3_at 42 = .ok (.ixor, 1) := by decide +kernel
theorem dX3_at_43 : decode cX3_at 43 = .ok (.istore_n 3, 1) := by decide +kernel
theorem dX3_at_44 : decode cX3_at 44 = .ok (.iinc 4 1, 3) := by decide +kernel
theorem dX3_at_47 : decode cX3_at 47 = .ok (.goto (-42), 3) := by decide +kernel
theorem dX3_at_50 : decode cX3_at 50 = .ok (.iload_n 3, 1) := by decide +kernel
theorem dX3_at_51 : decode cX3_at 51 = .ok (.ireturn, 1) := by decide +kernel
theorem dX3_times_0 : decode cX3_times 0 = .ok (.iload_n 1, 1) := by decide +kernel
theorem dX3_times_1 : decode cX3_times 1 = .ok (.ifCond .eq 7, 3) := by decide +kernel
theorem dX3_times_4 : decode cX3_times 4 = .ok (.iload_n 2, 1) := by decide +kernel
theorem dX3_times_5 : decode cX3_times 5 = .ok (.ifCond .ne 7, 3) := by decide +kernel
theorem dX3_times_8 : decode cX3_times 8 = .ok (.iconst 0, 1) := by decide +kernel
theorem dX3_times_9 : decode cX3_times 9 = .ok (.goto 21, 3) := by decide +kernel
theorem dX3_times_12 : decode cX3_times 12 = .ok (.aload_n 0, 1) := by decide +kernel
theorem dX3_times_13 : decode cX3_times 13 = .ok (.getfield 9, 3) := by decide +kernel
theorem dX3_times_16 : decode cX3_times 16 = .ok (.aload_n 0, 1) := by decide +kernel
theorem dX3_times_17 : decode cX3_times 17 = .ok (.getfield 15, 3) := by decide +kernel
theorem dX3_times_20 : decode cX3_times 20 = .ok (.iload_n 1, 1) := by decide +kernel
theorem dX3_times_21 : decode cX3_times 21 = .ok (.iaload, 1) := by decide +kernel
theorem dX3_times_22 : decode cX3_times 22 = .ok (.aload_n 0, 1) := by decide +kernel
theorem dX3_times_23 : decode cX3_times 23 = .ok (.getfield 15, 3) := by decide +kernel
theorem dX3_times_26 : decode cX3_times 26 = .ok (.iload_n 2, 1) := by decide +kernel
theorem dX3_times_27 : decode cX3_times 27 = .ok (.iaload, 1) := by decide +kernel
theorem dX3_times_28 : decode cX3_times 28 = .ok (.iadd, 1) := by decide +kernel
theorem dX3_times_29 : decode cX3_times 29 = .ok (.iaload, 1) := by decide +kernel
theorem dX3_times_30 : decode cX3_times 30 = .ok (.ireturn, 1) := by decide +kernel
theorem dX3_over_0 : decode cX3_over 0 = .ok (.iload_n 1, 1) := by decide +kernel
theorem dX3_over_1 : decode cX3_over 1 = .ok (.ifCond .ne 7, 3) := by decide +kernel
theorem dX3_over_4 : decode cX3_over 4 = .ok (.iconst 0, 1) := by decide +kernel
theorem dX3_over_5 : decode cX3_over 5 = .ok (.goto 26, 3) := by decide +kernel
theorem dX3_over_8 : decode cX3_over 8 = .ok (.aload_n 0, 1) := by decide +kernel
theorem dX3_over_9 : decode cX3_over 9 = .ok (.getfield 9, 3) := by decide +kernel
theorem dX3_over_12 : decode cX3_over 12 = .ok (.aload_n 0, 1) := by decide +kernel
theorem dX3_over_13 : decode cX3_over 13 = .ok (.getfield 15, 3) := by decide +kernel
theorem dX3_over_16 : decode cX3_over 16 = .ok (.iload_n 1, 1) := by decide +kernel
theorem dX3_over_17 : decode cX3_over 17 = .ok (.iaload, 1) := by decide +kernel
theorem dX3_over_18 : decode cX3_over 18 = .ok (.aload_n 0, 1) := by decide +kernel
theorem dX3_over_19 : decode cX3_over 19 = .ok (.getfield 22, 3) := by decide +kernel
theorem dX3_over_22 : decode cX3_over 22 = .ok (.iadd, 1) := by decide +kernel
theorem dX3_over_23 : decode cX3_over 23 = .ok (.aload_n 0, 1) := by decide +kernel
theorem dX3_over_24 : decode cX3_over 24 = .ok (.getfield 15, 3) := by decide +kernel
theorem dX3_over_27 : decode cX3_over 27 = .ok (.iload_n 2, 1) := by decide +kernel
theorem dX3_over_28 : decode cX3_over 28 = .ok (.iaload, 1) := by decide +kernel
theorem dX3_over_29 : decode cX3_over 29 = .ok (.isub, 1) := by decide +kernel
theorem dX3_over_30 : decode cX3_over 30 = .ok (.iaload, 1) := by decide +kernel
theorem dX3_over_31 : decode cX3_over 31 = .ok (.ireturn, 1) := by decide +kernel
theorem dX4_init_0 : decode cX4_init 0 = .ok (.aload_n 0, 1) := by decide +kernel
theorem dX4_init_1 : decode cX4_init 1 = .ok (.invokespecial 3, 3) := by decide +kernel
theorem dX4_init_4 : decode cX4_init 4 = .ok (.aload_n 0, 1) := by decide +kernel
theorem dX4_init_5 : decode cX4_init 5 = .ok (.bipush 8, 2) := by decide +kernel
theorem dX4_init_7 : decode cX4_init 7 = .ok (.newarray .int, 2) := by decide +kernel
theorem dX4_init_9 : decode cX4_init 9 = .ok (.putfield 9, 3) := by decide +kernel
theorem dX4_init_12 : decode cX4_init 12 = .ok (.return_, 1) := by decide +kernel
theorem dX4_clear_0 : decode cX4_clear 0 = .ok (.iconst 0, 1) := by decide +kernel
theorem dX4_clear_1 : decode cX4_clear 1 = .ok (.istore_n 1, 1) := by decide +kernel
theorem dX4_clear_2 : decode cX4_clear 2 = .ok (.iload_n 1, 1) := by decide +kernel
theorem dX4_clear_3 : decode cX4_clear 3 = .ok (.aload_n 0, 1) := by decide +kernel
theorem dX4_clear_4 : decode cX4_clear 4 = .ok (.getfield 9, 3) := by decide +kernel
theorem dX4_clear_7 : decode cX4_clear 7 = .ok (.arraylength, 1) := by decide +kernel
theorem dX4_clear_8 : decode cX4_clear 8 = .ok (.if_icmp .ge 16, 3) := by decide +kernel
theorem dX4_clear_11 : decode cX4_clear 11 = .ok (.aload_n 0, 1) := by decide +kernel
theorem dX4_clear_12 : decode cX4_clear 12 = .ok (.getfield 9, 3) := by decide +kernel
theorem dX4_clear_15 : decode cX4_clear 15 = .ok (.iload_n 1, 1) := by decide +kernel
theorem dX4_clear_16 : decode cX4_clear 16 = .ok (.iconst 0, 1) := by decide +kernel
theorem dX4_clear_17 : decode cX4_clear 17 = .ok (.iastore, 1) := by decide +kernel
theorem dX4_clear_18 : decode cX4_clear 18 = .ok (.iinc 1 1, 3) := by decide +kernel
theorem dX4_clear_21 : decode cX4_clear 21 = .ok (.goto (-19), 3) := by decide +kernel
theorem dX4_clear_24 : decode cX4_clear 24 = .ok (.aload_n 0, 1) := by decide +kernel
theorem dX4_clear_25 : decode cX4_clear 25 = .ok (.areturn, 1) := by decide +kernel
theorem dX4_degree_0 : decode cX4_degree 0 = .ok (.aload_n 0, 1) := by decide +kernel
theorem dX4_degree_1 : decode cX4_degree 1 = .ok (.getfield 9, 3) := by decide +kernel
theorem dX4_degree_4 : decode cX4_degree 4 = .ok (.arraylength, 1) := by decide +kernel
theorem dX4_degree_5 : decode cX4_degree 5 = .ok (.iconst 1, 1) := by decide +kernel
theorem dX4_degree_6 : decode cX4_degree 6 = .ok (.isub, 1) := by decide +kernel
theorem dX4_degree_7 : decode cX4_degree 7 = .ok (.istore_n 1, 1) := by decide +kernel
theorem dX4_degree_8 : decode cX4_degree 8 = .ok (.iload_n 1, 1) := by decide +kernel
theorem dX4_degree_9 : decode cX4_degree 9 = .ok (.ifCond .lt 18, 3) := by decide +kernel
theorem dX4_degree_12 : decode cX4_degree 12 = .ok (.aload_n 0, 1) := by decide +kernel
theorem dX4_degree_13 : decode cX4_degree 13 = .ok (.getfield 9, 3) := by decide +kernel
theorem dX4_degree_16 : decode cX4_degree 16 = .ok (.iload_n 1, 1) := by decide +kernel
theorem dX4_degree_17 : decode cX4_degree 17 = .ok (.iaload, 1) := by decide +kernel
theorem dX4_degree_18 : decode cX4_degree 18 = .ok (.ifCond .ne 9, 3) := by decide +kernel
theorem dX4_degree_21 : decode cX4_degree 21 = .ok (.iinc 1 (-1), 3) := by decide +kernel
theorem dX4_degree_24 : decode cX4_degree 24 = .ok (.goto (-16), 3) := by decide +kernel
theorem dX4_degree_27 : decode cX4_degree 27 = .ok (.iload_n 1, 1) := by decide +kernel
theorem dX4_degree_28 : decode cX4_degree 28 = .ok (.ireturn, 1) := by decide +kernel
theorem dX4_add_0 : decode cX4_add 0 = .ok (.iconst 0, 1) := by decide +kernel
theorem dX4_add_1 : decode cX4_add 1 = .ok (.istore 5, 2) := by decide +kernel
theorem dX4_add_3 : decode cX4_add 3 = .ok (.iload 5, 2) := by decide +kernel
theorem dX4_add_5 : decode cX4_add 5 = .ok (.iload 4, 2) := by decide +kernel
theorem dX4_add_7 : decode cX4_add 7 = .ok (.iadd, 1) := by decide +kernel
theorem dX4_add_8 : decode cX4_add 8 = .ok (.aload_n 0, 1) := by decide +kernel
theorem dX4_add_9 : decode cX4_add 9 = .ok (.getfield 9, 3) := by decide +kernel
theorem dX4_add_12 : decode cX4_add 12 = .ok (.arraylength, 1) := by decide +kernel
theorem dX4_add_13 : decode cX4_add 13 = .ok (.if_icmp .ge 34, 3) := by decide +kernel
theorem dX4_add_16 : decode cX4_add 16 = .ok (.aload_n 0, 1) := by decide +kernel
theorem dX4_add_17 : decode cX4_add 17 = .ok (.getfield 9, 3) := by decide +kernel
theorem dX4_add_20 : decode cX4_add 20 = .ok (.iload 5, 2) := by decide +kernel
theorem dX4_add_22 : decode cX4_add 22 = .ok (.iload 4, 2) := by decide +kernel
theorem dX4_add_24 : decode cX4_add 24 = .ok (.iadd, 1) := by decide +kernel
theorem dX4_add_25 : decode cX4_add 25 = .ok (.dup2, 1) := by decide +kernel
theorem dX4_add_26 : decode cX4_add 26 = .ok (.iaload, 1) := by decide +kernel
theorem dX4_add_27 : decode cX4_add 27 = .ok (.aload_n 1, 1) := by decide +kernel
theorem dX4_add_28 : decode cX4_add 28 = .ok (.aload_n 2, 1) := by decide +kernel
theorem dX4_add_29 : decode cX4_add 29 = .ok (.getfield 9, 3) := by decide +kernel
theorem dX4_add_32 : decode cX4_add 32 = .ok (.iload 5, 2) := by decide +kernel
theorem dX4_add_34 : decode cX4_add 34 = .ok (.iaload, 1) := by decide +kernel
theorem dX4_add_35 : decode cX4_add 35 = .ok (.iload_n 3, 1) := by decide +kernel
theorem dX4_add_36 : decode cX4_add 36 = .ok (.invokevirtual 21, 3) := by decide +kernel
theorem dX4_add_39 : decode cX4_add 39 = .ok (.ixor, 1) := by decide +kernel
theorem dX4_add_40 : decode cX4_add 40 = .ok (.iastore, 1) := by decide +kernel
theorem dX4_add_41 : decode cX4_add 41 = .ok (.iinc 5 1, 3) := by decide +kernel
theorem dX4_add_44 : decode cX4_add 44 = .ok (.goto (-41), 3) := by decide +kernel
theorem dX4_add_47 : decode cX4_add 47 = .ok (.return_, 1) := by decide +kernel
theorem dX4_copy_0 : decode cX4_copy 0 = .ok (.aload_n 1, 1) := by decide +kernel
theorem dX4_copy_1 : decode cX4_copy 1 = .ok (.getfield 9, 3) := by decide +kernel
theorem dX4_copy_4 : decode cX4_copy 4 = .ok (.iconst 0, 1) := by decide +kernel
theorem dX4_copy_5 : decode cX4_copy 5 = .ok (.aload_n 0, 1) := by decide +kernel
theorem dX4_copy_6 : decode cX4_copy 6 = .ok (.getfield 9, 3) := by decide +kernel
theorem dX4_copy_9 : decode cX4_copy 9 = .ok (.iconst 0, 1) := by decide +kernel
theorem dX4_copy_10 : decode cX4_copy 10 = .ok (.aload_n 0, 1) := by decide +kernel
theorem dX4_copy_11 : decode cX4_copy 11 = .ok (.getfield 9, 3) := by decide +kernel
theorem dX4_copy_14 : decode cX4_copy 14 = .ok (.arraylength, 1) := by decide +kernel
theorem dX4_copy_15 : decode cX4_copy 15 = .ok (.invokestatic 15, 3) := by decide +kernel
theorem dX4_copy_18 : decode cX4_copy 18 = .ok (.return_, 1) := by decide +kernel
theorem dX4_value_0 : decode cX4_value 0 = .ok (.iconst 0, 1) := by decide +kernel
theorem dX4_value_1 : decode cX4_value 1 = .ok (.istore_n 3, 1) := by decide +kernel
theorem dX4_value_2 : decode cX4_value 2 = .ok (.iconst 0, 1) := by decide +kernel
theorem dX4_value_3 : decode cX4_value 3 = .ok (.istore 4, 2) := by decide +kernel
theorem dX4_value_5 : decode cX4_value 5 = .ok (.iload 4, 2) := by decide +kernel
theorem dX4_value_7 : decode cX4_value 7 = .ok (.aload_n 0, 1) := by decide +kernel
theorem dX4_value_8 : decode cX4_value 8 = .ok (.getfield 9, 3) := by decide +kernel
theorem dX4_value_11 : decode cX4_value 11 = .ok (.arraylength, 1) := by decide +kernel
theorem dX4_value_12 : decode cX4_value 12 = .ok (.if_icmp .ge 53, 3) := by decide +kernel
theorem dX4_value_15 : decode cX4_value 15 = .ok (.iload_n 3, 1) := by decide +kernel
theorem dX4_value_16 : decode cX4_value 16 = .ok (.aload_n 0, 1) := by decide +kernel
theorem dX4_value_17 : decode cX4_value 17 = .ok (.getfield 9, 3) := by decide +kernel
theorem dX4_value_20 : decode cX4_value 20 = .ok (.iload 4, 2) := by decide +kernel
theorem dX4_value_22 : decode cX4_value 22 = .ok (.iaload, 1) := by decide +kernel
theorem dX4_value_23 : decode cX4_value 23 = .ok (.ifCond .ne 7, 3) := by decide +kernel
theorem dX4_value_26 : decode cX4_value 26 = .ok (.iconst 0, 1) := by decide +kernel
theorem dX4_value_27 : decode cX4_value 27 = .ok (.goto 30, 3) := by decide +kernel
theorem dX4_value_30 : decode cX4_value 30 = .ok (.aload_n 1, 1) := by decide +kernel
theorem dX4_value_31 : decode cX4_value 31 = .ok (.getfield 27, 3) := by decide +kernel
theorem dX4_value_34 : decode cX4_value 34 = .ok (.aload_n 1, 1) := by decide +kernel
theorem dX4_value_35 : decode cX4_value 35 = .ok (.getfield 30, 3) := by decide +kernel
theorem dX4_value_38 : decode cX4_value 38 = .ok (.aload_n 0, 1) := by decide +kernel
theorem dX4_value_39 : decode cX4_value 39 = .ok (.getfield 9, 3) := by decide +kernel
theorem dX4_value_42 : decode cX4_value 42 = .ok (.iload 4, 2) := by decide +kernel
theorem dX4_value_44 : decode cX4_value 44 = .ok (.iaload, 1) := by decide +kernel
theorem dX4_value_45 : decode cX4_value 45 = .ok (.iaload, 1) := by decide +kernel
theorem dX4_value_46 : decode cX4_value 46 = .ok (.iload 4, 2) := by decide +kernel
theorem dX4_value_48 : decode cX4_value 48 = .ok (.iload_n 2, 1) := by decide +kernel
theorem dX4_value_49 : decode cX4_value 49 = .ok (.imul, 1) := by decide +kernel
theorem dX4_value_50 : decode cX4_value 50 = .ok (.iadd, 1) := by decide +kernel
theorem dX4_value_51 : decode cX4_value 51 = .ok (.aload_n 1, 1) := by decide +kernel
theorem dX4_value_52 : decode cX4_value 52 = .ok (.getfield 33, 3) := by decide +kernel
theorem dX4_value_55 : decode cX4_value 55 = .ok (.irem, 1) := by decide +kernel
theorem dX4_value_56 : decode cX4_value 56 = .ok (.iaload, 1) := by decide +kernel
theorem dX4_value_57 : decode cX4_value 57 = .ok (.ixor, 1) := by decide +kernel
theorem dX4_value_58 : decode cX4_value 58 = .ok (.istore_n 3, 1) := by decide +kernel
theorem dX4_value_59 : decode cX4_value 59 = .ok (.iinc 4 1, 3) := by decide +kernel
theorem dX4_value_62 : decode cX4_value 62 = .ok (.goto (-57), 3) := by decide +kernel
theorem dX4_value_65 : decode cX4_value 65 = .ok (.iload_n 3, 1) := by decide +kernel
theorem dX4_value_66 : decode cX4_value 66 = .ok (.ireturn, 1) := by decide +kernel
