set_option maxRecDepth 100000
theorem dX5_init_0 : decode cX5_init 0 = .ok (.aload_n 0, 1) := by decide +kernel
theorem dX5_init_1 : decode cX5_init 1 = .ok (.invokespecial 3, 3) := by decide +kernel
theorem dX5_init_4 : decode cX5_init 4 = .ok (.aload_n 0, 1) := by decide +kernel
theorem dX5_init_5 : decode cX5_init 5 = .ok (.iconst 3, 1) := by decide +kernel
theorem dX5_init_6 : decode cX5_init 6 = .ok (.iconst 4, 1) := by decide +kernel
theorem dX5_init_7 : decode cX5_init 7 = .ok (.multianewarray 9 2, 4) := by decide +kernel
theorem dX5_init_11 : decode cX5_init 11 = .ok (.putfield 11, 3) := by decide +kernel
theorem dX5_init_14 : decode cX5_init 14 = .ok (.return_, 1) := by decide +kernel
theorem dX5_find_0 : decode cX5_find 0 = .ok (.iload_n 3, 1) := by decide +kernel
theorem dX5_find_1 : decode cX5_find 1 = .ok (.istore 5, 2) := by decide +kernel
theorem dX5_find_3 : decode cX5_find 3 = .ok (.iload 5, 2) := by decide +kernel
theorem dX5_find_5 : decode cX5_find 5 = .ok (.ifCond .le 20, 3) := by decide +kernel
theorem dX5_find_8 : decode cX5_find 8 = .ok (.aload_n 0, 1) := by decide +kernel
theorem dX5_find_9 : decode cX5_find 9 = .ok (.aload_n 1, 1) := by decide +kernel
theorem dX5_find_10 : decode cX5_find 10 = .ok (.aload_n 2, 1) := by decide +kernel
theorem dX5_find_11 : decode cX5_find 11 = .ok (.iload 5, 2) := by decide +kernel
theorem dX5_find_13 : decode cX5_find 13 = .ok (.invokevirtual 16, 3) := by decide +kernel
theorem dX5_find_16 : decode cX5_find 16 = .ok (.ifCond .ne 9, 3) := by decide +kernel
theorem dX5_find_19 : decode cX5_find 19 = .ok (.iinc 5 (-1), 3) := by decide +kernel
theorem dX5_find_22 : decode cX5_find 22 = .ok (.goto (-19), 3) := by decide +kernel
theorem dX5_find_25 : decode cX5_find 25 = .ok (.aload 4, 2) := by decide +kernel
theorem dX5_find_27 : decode cX5_find 27 = .ok (.invokevirtual 20, 3) := by decide +kernel
theorem dX5_find_30 : decode cX5_find 30 = .ok (.pop, 1) := by decide +kernel
theorem dX5_find_31 : decode cX5_find 31 = .ok (.aload 4, 2) := by decide +kernel
theorem dX5_find_33 : decode cX5_find 33 = .ok (.getfield 26, 3) := by decide +kernel
theorem dX5_find_36 : decode cX5_find 36 = .ok (.iconst 0, 1) := by decide +kernel
theorem dX5_find_37 : decode cX5_find 37 = .ok (.iconst 1, 1) := by decide +kernel
theorem dX5_find_38 : decode cX5_find 38 = .ok (.iastore, 1) := by decide +kernel
theorem dX5_find_39 : decode cX5_find 39 = .ok (.iconst 0, 1) := by decide +kernel
theorem dX5_find_40 : decode cX5_find 40 = .ok (.istore 6, 2) := by decide +kernel
theorem dX5_find_42 : decode cX5_find 42 = .ok (.iload 6, 2) := by decide +kernel
theorem dX5_find_44 : decode cX5_find 44 = .ok (.iload 5, 2) := by decide +kernel
theorem dX5_find_46 : decode cX5_find 46 = .ok (.if_icmp .ge 30, 3) := by decide +kernel
theorem dX5_find_49 : decode cX5_find 49 = .ok (.aload 4, 2) := by decide +kernel
theorem dX5_find_51 : decode cX5_find 51 = .ok (.getfield 26, 3) := by decide +kernel
theorem dX5_find_54 : decode cX5_find 54 = .ok (.iload 5, 2) := by decide +kernel
theorem dX5_find_56 : decode cX5_find 56 = .ok (.iload 6, 2) := by decide +kernel
theorem dX5_find_58 : decode cX5_find 58 = .ok (.isub, 1) := by decide +kernel
theorem dX5_find_59 : decode cX5_find 59 = .ok (.aload_n 0, 1) := by decide +kernel
theorem dX5_find_60 : decode cX5_find 60 = .ok (.getfield 11, 3) := by decide +kernel
theorem dX5_find_63 : decode cX5_find 63 = .ok (.iload 6, 2) := by decide +kernel
theorem dX5_find_65 : decode cX5_find 65 = .ok (.aaload, 1) := by decide +kernel
theorem dX5_find_66 : decode cX5_find 66 = .ok (.iload 5, 2) := by decide +kernel
theorem dX5_find_68 : decode cX5_find 68 = .ok (.iaload, 1) := by decide +kernel
theorem dX5_find_69 : decode cX5_find 69 = .ok (.iastore, 1) := by decide +kernel
theorem dX5_find_70 : decode cX5_find 70 = .ok (.iinc 6 1, 3) := by decide +kernel
theorem dX5_find_73 : decode cX5_find 73 = .ok (.goto (-31), 3) := by decide +kernel
theorem dX5_find_76 : decode cX5_find 76 = .ok (.return_, 1) := by decide +kernel
theorem dX5_solve_0 : decode cX5_solve 0 = .ok (.iconst 0, 1) := by decide +kernel
theorem dX5_solve_1 : decode cX5_solve 1 = .ok (.istore 4, 2) := by decide +kernel
theorem dX5_solve_3 : decode cX5_solve 3 = .ok (.iload 4, 2) := by decide +kernel
theorem dX5_solve_5 : decode cX5_solve 5 = .ok (.iload_n 3, 1) := by decide +kernel
theorem dX5_solve_6 : decode cX5_solve 6 = .ok (.if_icmp .ge 43, 3) := by decide +kernel
theorem dX5_solve_9 : decode cX5_solve 9 = .ok (.iconst 0, 1) := by decide +kernel
theorem dX5_solve_10 : decode cX5_solve 10 = .ok (.istore 5, 2) := by decide +kernel
theorem dX5_solve_12 : decode cX5_solve 12 = .ok (.iload 5, 2) := by decide +kernel
theorem dX5_solve_14 : decode cX5_solve 14 = .ok (.iload_n 3, 1) := by decide +kernel
theorem dX5_solve_15 : decode cX5_solve 15 = .ok (.if_icmp .gt 28, 3) := by decide +kernel
theorem dX5_solve_18 : decode cX5_solve 18 = .ok (.aload_n 0, 1) := by decide +kernel
theorem dX5_solve_19 : decode cX5_solve 19 = .ok (.getfield 11, 3) := by decide +kernel
theorem dX5_solve_22 : decode cX5_solve 22 = .ok (.iload 4, 2) := by decide +kernel
theorem dX5_solve_24 : decode cX5_solve 24 = .ok (.aaload, 1) := by decide +kernel
theorem dX5_solve_25 : decode cX5_solve 25 = .ok (.iload 5, 2) := by decide +kernel
theorem dX5_solve_27 : decode cX5_solve 27 = .ok (.aload_n 2, 1) := by decide +kernel
theorem dX5_solve_28 : decode cX5_solve 28 = .ok (.iload 4, 2) := by decide +kernel
theorem dX5_solve_30 : decode cX5_solve 30 = .ok (.iload 5, 2) := by decide +kernel
theorem dX5_solve_32 : decode cX5_solve 32 = .ok (.iadd, 1) := by decide +kernel
theorem dX5_solve_33 : decode cX5_solve 33 = .ok (.iconst 1, 1) := by decide +kernel
theorem dX5_solve_34 : decode cX5_solve 34 = .ok (.iadd, 1) := by decide +kernel
theorem dX5_solve_35 : decode cX5_solve 35 = .ok (.iaload, 1) := by decide +kernel
theorem dX5_solve_36 : decode cX5_solve 36 = .ok (.iastore, 1) := by decide +kernel
theorem dX5_solve_37 : decode cX5_solve 37 = .ok (.iinc 5 1, 3) := by decide +kernel
theorem dX5_solve_40 : decode cX5_solve 40 = .ok (.goto (-28), 3) := by decide +kernel
theorem dX5_solve_43 : decode cX5_solve 43 = .ok (.iinc 4 1, 3) := by decide +kernel
theorem dX5_solve_46 : decode cX5_solve 46 = .ok (.goto (-43), 3) := by decide +kernel
theorem dX5_solve_49 : decode cX5_solve 49 = .ok (.iconst 0, 1) := by decide +kernel
theorem dX5_solve_50 : decode cX5_solve 50 = .ok (.istore 4, 2) := by decide +kernel
theorem dX5_solve_52 : decode cX5_solve 52 = .ok (.iload 4, 2) := by decide +kernel
theorem dX5_solve_54 : decode cX5_solve 54 = .ok (.iload_n 3, 1) := by decide +kernel
theorem dX5_solve_55 : decode cX5_solve 55 = .ok (.if_icmp .ge 86, 3) := by decide +kernel
theorem dX5_solve_58 : decode cX5_solve 58 = .ok (.iload 4, 2) := by decide +kernel
theorem dX5_solve_60 : decode cX5_solve 60 = .ok (.istore 5, 2) := by decide +kernel
theorem dX5_solve_62 : decode cX5_solve 62 = .ok (.iload 5, 2) := by decide +kernel
theorem dX5_solve_64 : decode cX5_solve 64 = .ok (.iload_n 3, 1) := by decide +kernel
theorem dX5_solve_65 : decode cX5_solve 65 = .ok (.if_icmp .ge 22, 3) := by decide +kernel
theorem dX5_solve_68 : decode cX5_solve 68 = .ok (.aload_n 0, 1) := by decide +kernel
theorem dX5_solve_69 : decode cX5_solve 69 = .ok (.getfield 11, 3) := by decide +kernel
theorem dX5_solve_72 : decode cX5_solve 72 = .ok (.iload 5, 2) := by decide +kernel
theorem dX5_solve_74 : decode cX5_solve 74 = .ok (.aaload, 1) := by decide +kernel
theorem dX5_solve_75 : decode cX5_solve 75 = .ok (.iload 4, 2) := by decide +kernel
theorem dX5_solve_77 : decode cX5_solve 77 = .ok (.iaload, 1) := by decide +kernel
theorem dX5_solve_78 : decode cX5_solve 78 = .ok (.ifCond .ne 9, 3) := by decide +kernel
theorem dX5_solve_81 : decode cX5_solve 81 = .ok (.iinc 5 1, 3) := by decide +kernel
theorem dX5_solve_84 : decode cX5_solve 84 = .ok (.goto (-22), 3) := by decide +kernel
theorem dX5_solve_87 : decode cX5_solve 87 = .ok (.iload 5, 2) := by decide +kernel
theorem dX5_solve_89 : decode cX5_solve 89 = .ok (.iload_n 3, 1) := by decide +kernel
theorem dX5_solve_90 : decode cX5_solve 90 = .ok (.if_icmp .ne 5, 3) := by decide +kernel
theorem dX5_solve_93 : decode cX5_solve 93 = .ok (.iconst 0, 1) := by decide +kernel
theorem dX5_solve_94 : decode cX5_solve 94 = .ok (.ireturn, 1) := by decide +kernel
theorem dX5_solve_95 : decode cX5_solve 95 = .ok (.aload_n 0, 1) := by decide +kernel
theorem dX5_solve_96 : decode cX5_solve 96 = .ok (.getfield 11, 3) := by decide +kernel
theorem dX5_solve_99 : decode cX5_solve 99 = .ok (.iload 4, 2) := by decide +kernel
theorem dX5_solve_101 : decode cX5_solve 101 = .ok (.aaload, 1) := by decide +kernel
theorem dX5_solve_102 : decode cX5_solve 102 = .ok (.astore 6, 2) := by decide +kernel
theorem dX5_solve_104 : decode cX5_solve 104 = .ok (.aload_n 0, 1) := by decide +kernel
theorem dX5_solve_105 : decode cX5_solve 105 = .ok (.getfield 11, 3) := by decide +kernel
theorem dX5_solve_108 : decode cX5_solve 108 = .ok (.iload 4, 2) := by decide +kernel
theorem dX5_solve_110 : decode cX5_solve 110 = .ok (.aload_n 0, 1) := by decide +kernel
theorem dX5_solve_111 : decode cX5_solve 111 = .ok (.getfield 11, 3) := by decide +kernel
theorem dX5_solve_114 : decode cX5_solve 114 = .ok (.iload 5, 2) := by decide +kernel
theorem dX5_solve_116 : decode cX5_solve 116 = .ok (.aaload, 1) := by decide +kernel
theorem dX5_solve_117 : decode cX5_solve 117 = .ok (.aastore, 1) := by decide +kernel
theorem dX5_solve_118 : decode cX5_solve 118 = .ok (.aload_n 0, 1) := by decide +kernel
theorem dX5_solve_119 : decode cX5_solve 119 = .ok (.getfield 11, 3) := by decide +kernel
theorem dX5_solve_122 : decode cX5_solve 122 = .ok (.iload 5, 2) := by decide +kernel
theorem dX5_solve_124 : decode cX5_solve 124 = .ok (.aload 6, 2) := by decide +kernel
theorem dX5_solve_126 : decode cX5_solve 126 = .ok (.aastore, 1) := by decide +kernel
theorem dX5_solve_127 : decode cX5_solve 127 = .ok (.aload_n 0, 1) := by decide +kernel
theorem dX5_solve_128 : decode cX5_solve 128 = .ok (.aload_n 1, 1) := by decide +kernel
theorem dX5_solve_129 : decode cX5_solve 129 = .ok (.iload 4, 2) := by decide +kernel
theorem dX5_solve_131 : decode cX5_solve 131 = .ok (.iload_n 3, 1) := by decide +kernel
theorem dX5_solve_132 : decode cX5_solve 132 = .ok (.invokevirtual 30, 3) := by decide +kernel
theorem dX5_solve_135 : decode cX5_solve 135 = .ok (.iinc 4 1, 3) := by decide +kernel
theorem dX5_solve_138 : decode cX5_solve 138 = .ok (.goto (-86), 3) := by decide +kernel
theorem dX5_solve_141 : decode cX5_solve 141 = .ok (.iconst 1, 1) := by decide +kernel
theorem dX5_solve_142 : decode cX5_solve 142 = .ok (.ireturn, 1) := by decide +kernel
theorem dX5_clear_0 : decode cX5_clear 0 = .ok (.aload_n 0, 1) := by decide +kernel
theorem dX5_clear_1 : decode cX5_clear 1 = .ok (.getfield 11, 3) := by decide +kernel
theorem dX5_clear_4 : decode cX5_clear 4 = .ok (.iload_n 2, 1) := by decide +kernel
theorem dX5_clear_5 : decode cX5_clear 5 = .ok (.aaload, 1) := by decide +kernel
theorem dX5_clear_6 : decode cX5_clear 6 = .ok (.iload_n 2, 1) := by decide +kernel
theorem dX5_clear_7 : decode cX5_clear 7 = .ok (.iaload, 1) := by decide +kernel
theorem dX5_clear_8 : decode cX5_clear 8 = .ok (.istore 4, 2) := by decide +kernel
theorem dX5_clear_10 : decode cX5_clear 10 = .ok (.iload_n 2, 1) := by decide +kernel
theorem dX5_clear_11 : decode cX5_clear 11 = .ok (.istore 5, 2) := by decide +kernel
theorem dX5_clear_13 : decode cX5_clear 13 = .ok (.iload 5, 2) := by decide +kernel
theorem dX5_clear_15 : decode cX5_clear 15 = .ok (.iload_n 3, 1) := by decide +kernel
theorem dX5_clear_16 : decode cX5_clear 16 = .ok (.if_icmp .gt 33, 3) := by decide +kernel
theorem dX5_clear_19 : decode cX5_clear 19 = .ok (.aload_n 0, 1) := by decide +kernel
theorem dX5_clear_20 : decode cX5_clear 20 = .ok (.getfield 11, 3) := by decide +kernel
theorem dX5_clear_23 : decode cX5_clear 23 = .ok (.iload_n 2, 1) := by decide +kernel
theorem dX5_clear_24 : decode cX5_clear 24 = .ok (.aaload, 1) := by decide +kernel
theorem dX5_clear_25 : decode cX5_clear 25 = .ok (.iload 5, 2) := by decide +kernel
theorem dX5_clear_27 : decode cX5_clear 27 = .ok (.aload_n 1, 1) := by decide +kernel
theorem dX5_clear_28 : decode cX5_clear 28 = .ok (.aload_n 0, 1) := by decide +kernel
theorem dX5_clear_29 : decode cX5_clear 29 = .ok (.getfield 11, 3) := by decide +kernel
theorem dX5_clear_32 : decode cX5_clear 32 = .ok (.iload_n 2, 1) := by decide +kernel
theorem dX5_clear_33 : decode cX5_clear 33 = .ok (.aaload, 1) := by decide +kernel
theorem dX5_clear_34 : decode cX5_clear 34 = .ok (.iload 5, 2) := by decide +kernel
theorem dX5_clear_36 : decode cX5_clear 36 = .ok (.iaload, 1) := by decide +kernel
theorem dX5_clear_37 : decode cX5_clear 37 = .ok (.iload 4, 2) := by decide +kernel
theorem dX5_clear_39 : decode cX5_clear 39 = .ok (.invokevirtual 33, 3) := by decide +kernel
theorem dX5_clear_42 : decode cX5_clear 42 = .ok (.iastore, 1) := by decide +kernel
theorem dX5_clear_43 : decode cX5_clear 43 = .ok (.iinc 5 1, 3) := by decide +kernel
theorem dX5_clear_46 : decode cX5_clear 46 = .ok (.goto (-33), 3) := by decide +kernel
theorem dX5_clear_49 : decode cX5_clear 49 = .ok (.iconst 0, 1) := by decide +kernel
theorem dX5_clear_50 : decode cX5_clear 50 = .ok (.istore 5, 2) := by decide +kernel
theorem dX5_clear_52 : decode cX5_clear 52 = .ok (.iload 5, 2) := by decide +kernel
theorem dX5_clear_54 : decode cX5_clear 54 = .ok (.iload_n 3, 1) := by decide +kernel
theorem dX5_clear_55 : decode cX5_clear 55 = .ok (.if_icmp .ge 69, 3) := by decide +kernel
theorem dX5_clear_58 : decode cX5_clear 58 = .ok (.aload_n 0, 1) := by decide +kernel
theorem dX5_clear_59 : decode cX5_clear 59 = .ok (.getfield 11, 3) := by decide +kernel
theorem dX5_clear_62 : decode cX5_clear 62 = .ok (.iload 5, 2) := by decide +kernel
theorem dX5_clear_64 : decode cX5_clear 64 = .ok (.aaload, 1) := by decide +kernel
theorem dX5_clear_65 : decode cX5_clear 65 = .ok (.iload_n 2, 1) := by decide +kernel
theorem dX5_clear_66 : decode cX5_clear 66 = .ok (.iaload, 1) := by decide +kernel
theorem dX5_clear_67 : decode cX5_clear 67 = .ok (.istore 6, 2) := by decide +kernel
theorem dX5_clear_69 : decode cX5_clear 69 = .ok (.iload_n 2, 1) := by decide +kernel
theorem dX5_clear_70 : decode cX5_clear 70 = .ok (.istore 7, 2) := by decide +kernel
theorem dX5_clear_72 : decode cX5_clear 72 = .ok (.iload 7, 2) := by decide +kernel
theorem dX5_clear_74 : decode cX5_clear 74 = .ok (.iload_n 3, 1) := by decide +kernel
theorem dX5_clear_75 : decode cX5_clear 75 = .ok (.if_icmp .gt 43, 3) := by decide +kernel
theorem dX5_clear_78 : decode cX5_clear 78 = .ok (.iload 5, 2) := by decide +kernel
theorem dX5_clear_80 : decode cX5_clear 80 = .ok (.iload_n 2, 1) := by decide +kernel
theorem dX5_clear_81 : decode cX5_clear 81 = .ok (.if_icmp .eq 37, 3) := by decide +kernel
theorem dX5_clear_84 : decode cX5_clear 84 = .ok (.aload_n 0, 1) := by decide +kernel
theorem dX5_clear_85 : decode cX5_clear 85 = .ok (.getfield 11, 3) := by decide +kernel
theorem dX5_clear_88 : decode cX5_clear 88 = .ok (.iload 5, 2) := by decide +kernel
theorem dX5_clear_90 : decode cX5_clear 90 = .ok (.aaload, 1) := by decide +kernel
theorem dX5_clear_91 : decode cX5_clear 91 = .ok (.iload 7, 2) := by decide +kernel
theorem dX5_clear_93 : decode cX5_clear 93 = .ok (.dup2, 1) := by decide +kernel
theorem dX5_clear_94 : decode cX5_clear 94 = .ok (.iaload, 1) := by decide +kernel
theorem dX5_clear_95 : decode cX5_clear 95 = .ok (.aload_n 1, 1) := by decide +kernel
theorem dX5_clear_96 : decode cX5_clear 96 = .ok (.iload 6, 2) := by decide +kernel
theorem dX5_clear_98 : decode cX5_clear 98 = .ok (.aload_n 0, 1) := by decide +kernel
theorem dX5_clear_99 : decode cX5_clear 99 = .ok (.getfield 11, 3) := by decide +kernel
theorem dX5_clear_102 : decode cX5_clear 102 = .ok (.iload_n 2, 1) := by decide +kernel
theorem dX5_clear_103 : decode cX5_clear 103 = .ok (.aaload, 1) := by decide +kernel
theorem dX5_clear_104 : decode cX5_clear 104 = .ok (.iload 7, 2) := by decide +kernel
theorem dX5_clear_106 : decode cX5_clear 106 = .ok (.iaload, 1) := by decide +kernel
theorem dX5_clear_107 : decode cX5_clear 107 = .ok (.invokevirtual 39, 3) := by decide +kernel
theorem dX5_clear_110 : decode cX5_clear 110 = .ok (.ixor, 1) := by decide +kernel
theorem dX5_clear_111 : decode cX5_clear 111 = .ok (.iastore, 1) := by decide +kernel
theorem dX5_clear_112 : decode cX5_clear 112 = .ok (.iinc 7 1, 3) := by decide +kernel
theorem dX5_clear_115 : decode cX5_clear 115 = .ok (.goto (-43), 3) := by decide +kernel
theorem dX5_clear_118 : decode cX5_clear 118 = .ok (.iinc 5 1, 3) := by decide +kernel
theorem dX5_clear_121 : decode cX5_clear 121 = .ok (.goto (-69), 3) := by decide +kernel
theorem dX5_clear_124 : decode cX5_clear 124 = .ok (.return_, 1) := by decide +kernel
theorem dX6_init_0 : decode cX6_init 0 = .ok (.aload_n 0, 1) := by decide +kernel
theorem dX6_init_1 : decode cX6_init 1 = .ok (.invokespecial 1, 3) := by decide +kernel
theorem dX6_init_4 : decode cX6_init 4 = .ok (.aload_n 0, 1) := by decide +kernel
theorem dX6_init_5 : decode cX6_init 5 = .ok (.new 7, 3) := by decide +kernel
theorem dX6_init_8 : decode cX6_init 8 = .ok (.dup, 1) := by decide +kernel
theorem dX6_init_9 : decode cX6_init 9 = .ok (.invokespecial 9, 3) := by decide +kernel
theorem dX6_init_12 : decode cX6_init 12 = .ok (.putfield 10, 3) := by decide +kernel
theorem dX6_init_15 : decode cX6_init 15 = .ok (.aload_n 0, 1) := by decide +kernel
theorem dX6_init_16 : decode cX6_init 16 = .ok (.new 7, 3) := by decide +kernel
theorem dX6_init_19 : decode cX6_init 19 = .ok (.dup, 1) := by decide +kernel
theorem dX6_init_20 : decode cX6_init 20 = .ok (.invokespecial 9, 3) := by decide +kernel
theorem dX6_init_23 : decode cX6_init 23 = .ok (.putfield 16, 3) := by decide +kernel
theorem dX6_init_26 : decode cX6_init 26 = .ok (.aload_n 0, 1) := by decide +kernel
theorem dX6_init_27 : decode cX6_init 27 = .ok (.new 7, 3) := by decide +kernel
theorem dX6_init_30 : decode cX6_init 30 = .ok (.dup, 1) := by decide +kernel
theorem dX6_init_31 : decode cX6_init 31 = .ok (.invokespecial 9, 3) := by decide +kernel
theorem dX6_init_34 : decode cX6_init 34 = .ok (.putfield 19, 3) := by decide +kernel
theorem dX6_init_37 : decode cX6_init 37 = .ok (.aload_n 0, 1) := by decide +kernel
theorem dX6_init_38 : decode cX6_init 38 = .ok (.new 7, 3) := by decide +kernel
theorem dX6_init_41 : decode cX6_init 41 = .ok (.dup, 1) := by decide +kernel
theorem dX6_init_42 : decode cX6_init 42 = .ok (.invokespecial 9, 3) := by decide +kernel
theorem dX6_init_45 : decode cX6_init 45 = .ok (.putfield 22, 3) := by decide +kernel
theorem dX6_init_48 : decode cX6_init 48 = .ok (.return_, 1) := by decide +kernel
theorem dX6_find_0 : decode cX6_find 0 = .ok (.aload_n 0, 1) := by decide +kernel
theorem dX6_find_1 : decode cX6_find 1 = .ok (.getfield 10, 3) := by decide +kernel
theorem dX6_find_4 : decode cX6_find 4 = .ok (.invokevirtual 25, 3) := by decide +kernel
theorem dX6_find_7 : decode cX6_find 7 = .ok (.pop, 1) := by decide +kernel
theorem dX6_find_8 : decode cX6_find 8 = .ok (.aload_n 0, 1) := by decide +kernel
theorem dX6_find_9 : decode cX6_find 9 = .ok (.getfield 10, 3) := by decide +kernel
theorem dX6_find_12 : decode cX6_find 12 = .ok (.getfield 29, 3) := by decide +kernel
theorem dX6_find_15 : decode cX6_find 15 = .ok (.iconst 2, 1) := by decide +kernel
theorem dX6_find_16 : decode cX6_find 16 = .ok (.iload_n 3, 1) := by decide +kernel
theorem dX6_find_17 : decode cX6_find 17 = .ok (.imul, 1) := by decide +kernel
theorem dX6_find_18 : decode cX6_find 18 = .ok (.iconst 1, 1) := by decide +kernel
theorem dX6_find_19 : decode cX6_find 19 = .ok (.iastore, 1) := by decide +kernel
theorem dX6_find_20 : decode cX6_find 20 = .ok (.aload_n 0, 1) := by decide +kernel
theorem dX6_find_21 : decode cX6_find 21 = .ok (.getfield 16, 3) := by decide +kernel
theorem dX6_find_24 : decode cX6_find 24 = .ok (.invokevirtual 25, 3) := by decide +kernel
theorem dX6_find_27 : decode cX6_find 27 = .ok (.pop, 1) := by decide +kernel
theorem dX6_find_28 : decode cX6_find 28 = .ok (.iconst 1, 1) := by decide +kernel
theorem dX6_find_29 : decode cX6_find 29 = .ok (.istore 5, 2) := by decide +kernel
theorem dX6_find_31 : decode cX6_find 31 = .ok (.iload 5, 2) := by decide +kernel
theorem dX6_find_33 : decode cX6_find 33 = .ok (.iconst 2, 1) := by decide +kernel
theorem dX6_find_34 : decode cX6_find 34 = .ok (.iload_n 3, 1) := by decide +kernel
theorem dX6_find_35 : decode cX6_find 35 = .ok (.imul, 1) := by decide +kernel
theorem dX6_find_36 : decode cX6_find 36 = .ok (.if_icmp .gt 25, 3) := by decide +kernel
theorem dX6_find_39 : decode cX6_find 39 = .ok (.aload_n 0, 1) := by decide +kernel
theorem dX6_find_40 : decode cX6_find 40 = .ok (.getfield 16, 3) := by decide +kernel
theorem dX6_find_43 : decode cX6_find 43 = .ok (.getfield 29, 3) := by decide +kernel
theorem dX6_find_46 : decode cX6_find 46 = .ok (.iload 5, 2) := by decide +kernel
theorem dX6_find_48 : decode cX6_find 48 = .ok (.iconst 1, 1) := by decide +kernel
theorem dX6_find_49 : decode cX6_find 49 = .ok (.isub, 1) := by decide +kernel
theorem dX6_find_50 : decode cX6_find 50 = .ok (.aload_n 2, 1) := by decide +kernel
theorem dX6_find_51 : decode cX6_find 51 = .ok (.iload 5, 2) := by decide +kernel
theorem dX6_find_53 : decode cX6_find 53 = .ok (.iaload, 1) := by decide +kernel
theorem dX6_find_54 : decode cX6_find 54 = .ok (.iastore, 1) := by decide +kernel
theorem dX6_find_55 : decode cX6_find 55 = .ok (.iinc 5 1, 3) := by decide +kernel
theorem dX6_find_58 : decode cX6_find 58 = .ok (.goto (-27), 3) := by decide +kernel
theorem dX6_find_61 : decode cX6_find 61 = .ok (.aload_n 0, 1) := by decide +kernel
theorem dX6_find_62 : decode cX6_find 62 = .ok (.getfield 19, 3) := by decide +kernel
theorem dX6_find_65 : decode cX6_find 65 = .ok (.invokevirtual 25, 3) := by decide +kernel
theorem dX6_find_68 : decode cX6_find 68 = .ok (.pop, 1) := by decide +kernel
theorem dX6_find_69 : decode cX6_find 69 = .ok (.aload_n 0, 1) := by decide +kernel
theorem dX6_find_70 : decode cX6_find 70 = .ok (.getfield 22, 3) := by decide +kernel
theorem dX6_find_73 : decode cX6_find 73 = .ok (.invokevirtual 25, 3) := by decide +kernel
theorem dX6_find_76 : decode cX6_find 76 = .ok (.pop, 1) := by decide +kernel
theorem dX6_find_77 : decode cX6_find 77 = .ok (.aload_n 0, 1) := by decide +kernel
theorem dX6_find_78 : decode cX6_find 78 = .ok (.getfield 22, 3) := by decide +kernel
theorem dX6_find_81 : decode cX6_find 81 = .ok (.getfield 29, 3) := by decide +kernel
theorem dX6_find_84 : decode cX6_find 84 = .ok (.iconst 0, 1) := by decide +kernel
theorem dX6_find_85 : decode cX6_find 85 = .ok (.iconst 1, 1) := by decide +kernel
theorem dX6_find_86 : decode cX6_find 86 = .ok (.iastore, 1) := by decide +kernel
theorem dX6_find_87 : decode cX6_find 87 = .ok (.aload_n 0, 1) := by decide +kernel
theorem dX6_find_88 : decode cX6_find 88 = .ok (.getfield 16, 3) := by decide +kernel
theorem dX6_find_91 : decode cX6_find 91 = .ok (.invokevirtual 33, 3) := by decide +kernel
theorem dX6_find_94 : decode cX6_find 94 = .ok (.iload_n 3, 1) := by decide +kernel
theorem dX6_find_95 : decode cX6_find 95 = .ok (.if_icmp .lt 11, 3) := by decide +kernel
theorem dX6_find_98 : decode cX6_find 98 = .ok (.aload_n 0, 1) := by decide +kernel
theorem dX6_find_99 : decode cX6_find 99 = .ok (.aload_n 1, 1) := by decide +kernel
theorem dX6_find_100 : decode cX6_find 100 = .ok (.invokevirtual 37, 3) := by decide +kernel
theorem dX6_find_103 : decode cX6_find 103 = .ok (.goto (-16), 3) := by decide +kernel
theorem dX6_find_106 : decode cX6_find 106 = .ok (.aload_n 0, 1) := by decide +kernel
theorem dX6_find_107 : decode cX6_find 107 = .ok (.getfield 22, 3) := by decide +kernel
theorem dX6_find_110 : decode cX6_find 110 = .ok (.getfield 29, 3) := by decide +kernel
theorem dX6_find_113 : decode cX6_find 113 = .ok (.iconst 0, 1) := by decide +kernel
theorem dX6_find_114 : decode cX6_find 114 = .ok (.iaload, 1) := by decide +kernel
theorem dX6_find_115 : decode cX6_find 115 = .ok (.istore 5, 2) := by decide +kernel
theorem dX6_find_117 : decode cX6_find 117 = .ok (.aload 4, 2) := by decide +kernel
theorem dX6_find_119 : decode cX6_find 119 = .ok (.invokevirtual 25, 3) := by decide +kernel
theorem dX6_find_122 : decode cX6_find 122 = .ok (.pop, 1) := by decide +kernel
theorem dX6_find_123 : decode cX6_find 123 = .ok (.iload 5, 2) := by decide +kernel
theorem dX6_find_125 : decode cX6_find 125 = .ok (.ifCond .eq 21, 3) := by decide +kernel
theorem dX6_find_128 : decode cX6_find 128 = .ok (.aload 4, 2) := by decide +kernel
theorem dX6_find_130 : decode cX6_find 130 = .ok (.aload_n 1, 1) := by decide +kernel
theorem dX6_find_131 : decode cX6_find 131 = .ok (.aload_n 0, 1) := by decide +kernel
theorem dX6_find_132 : decode cX6_find 132 = .ok (.getfield 22, 3) := by decide +kernel
theorem dX6_find_135 : decode cX6_find 135 = .ok (.aload_n 1, 1) := by decide +kernel
theorem dX6_find_136 : decode cX6_find 136 = .ok (.iconst 1, 1) := by decide +kernel
theorem dX6_find_137 : decode cX6_find 137 = .ok (.iload 5, 2) := by decide +kernel
theorem dX6_find_139 : decode cX6_find 139 = .ok (.invokevirtual 41, 3) := by decide +kernel
theorem dX6_find_142 : decode cX6_find 142 = .ok (.iconst 0, 1) := by decide +kernel
theorem dX6_find_143 : decode cX6_find 143 = .ok (.invokevirtual 47, 3) := by decide +kernel
theorem dX6_find_146 : decode cX6_find 146 = .ok (.return_, 1) := by decide +kernel
theorem dX6_divide_0 : decode cX6_divide 0 = .ok (.aload_n 0, 1) := by decide +kernel
theorem dX6_divide_1 : decode cX6_divide 1 = .ok (.getfield 16, 3) := by decide +kernel
theorem dX6_divide_4 : decode cX6_divide 4 = .ok (.invokevirtual 33, 3) := by decide +kernel
theorem dX6_divide_7 : decode cX6_divide 7 = .ok (.istore_n 2, 1) := by decide +kernel
theorem dX6_divide_8 : decode cX6_divide 8 = .ok (.aload_n 0, 1) := by decide +kernel
theorem dX6_divide_9 : decode cX6_divide 9 = .ok (.getfield 16, 3) := by decide +kernel
theorem dX6_divide_12 : decode cX6_divide 12 = .ok (.getfield 29, 3) := by decide +kernel
theorem dX6_divide_15 : decode cX6_divide 15 = .ok (.iload_n 2, 1) := by decide +kernel
theorem dX6_divide_16 : decode cX6_divide 16 = .ok (.iaload, 1) := by decide +kernel
theorem dX6_divide_17 : decode cX6_divide 17 = .ok (.istore_n 3, 1) := by decide +kernel
theorem dX6_divide_18 : decode cX6_divide 18 = .ok (.aload_n 0, 1) := by decide +kernel
theorem dX6_divide_19 : decode cX6_divide 19 = .ok (.getfield 10, 3) := by decide +kernel
theorem dX6_divide_22 : decode cX6_divide 22 = .ok (.invokevirtual 33, 3) := by decide +kernel
theorem dX6_divide_25 : decode cX6_divide 25 = .ok (.istore 4, 2) := by decide +kernel
theorem dX6_divide_27 : decode cX6_divide 27 = .ok (.iload 4, 2) := by decide +kernel
theorem dX6_divide_29 : decode cX6_divide 29 = .ok (.iload_n 2, 1) := by decide +kernel
theorem dX6_divide_30 : decode cX6_divide 30 = .ok (.if_icmp .lt 68, 3) := by decide +kernel
theorem dX6_divide_33 : decode cX6_divide 33 = .ok (.aload_n 1, 1) := by decide +kernel
theorem dX6_divide_34 : decode cX6_divide 34 = .ok (.aload_n 0, 1) := by decide +kernel
theorem dX6_divide_35 : decode cX6_divide 35 = .ok (.getfield 10, 3) := by decide +kernel
theorem dX6_divide_38 : decode cX6_divide 38 = .ok (.getfield 29, 3) := by decide +kernel
theorem dX6_divide_41 : decode cX6_divide 41 = .ok (.iload 4, 2) := by decide +kernel
theorem dX6_divide_43 : decode cX6_divide 43 = .ok (.iaload, 1) := by decide +kernel
theorem dX6_divide_44 : decode cX6_divide 44 = .ok (.iload_n 3, 1) := by decide +kernel
theorem dX6_divide_45 : decode cX6_divide 45 = .ok (.invokevirtual 41, 3) := by decide +kernel
theorem dX6_divide_48 : decode cX6_divide 48 = .ok (.istore 5, 2) := by decide +kernel
theorem dX6_divide_50 : decode cX6_divide 50 = .ok (.aload_n 0, 1) := by decide +kernel
theorem dX6_divide_51 : decode cX6_divide 51 = .ok (.getfield 10, 3) := by decide +kernel
theorem dX6_divide_54 : decode cX6_divide 54 = .ok (.aload_n 1, 1) := by decide +kernel
theorem dX6_divide_55 : decode cX6_divide 55 = .ok (.aload_n 0, 1) := by decide +kernel
theorem dX6_divide_56 : decode cX6_divide 56 = .ok (.getfield 16, 3) := by decide +kernel
theorem dX6_divide_59 : decode cX6_divide 59 = .ok (.iload 5, 2) := by decide +kernel
theorem dX6_divide_61 : decode cX6_divide 61 = .ok (.iload 4, 2) := by decide +kernel
theorem dX6_divide_63 : decode cX6_divide 63 = .ok (.iload_n 2, 1) := by decide +kernel
theorem dX6_divide_64 : decode cX6_divide 64 = .ok (.isub, 1) := by decide +kernel
theorem dX6_divide_65 : decode cX6_divide 65 = .ok (.invokevirtual 47, 3) := by decide +kernel
theorem dX6_divide_68 : decode cX6_divide 68 = .ok (.aload_n 0, 1) := by decide +kernel
theorem dX6_divide_69 : decode cX6_divide 69 = .ok (.getfield 19, 3) := by decide +kernel
theorem dX6_divide_72 : decode cX6_divide 72 = .ok (.aload_n 1, 1) := by decide +kernel
theorem dX6_divide_73 : decode cX6_divide 73 = .ok (.aload_n 0, 1) := by decide +kernel
theorem dX6_divide_74 : decode cX6_divide 74 = .ok (.getfield 22, 3) := by decide +kernel
theorem dX6_divide_77 : decode cX6_divide 77 = .ok (.iload 5, 2) := by decide +kernel
theorem dX6_divide_79 : decode cX6_divide 79 = .ok (.iload 4, 2) := by decide +kernel
theorem dX6_divide_81 : decode cX6_divide 81 = .ok (.iload_n 2, 1) := by decide +kernel
theorem dX6_divide_82 : decode cX6_divide 82 = .ok (.isub, 1) := by decide +kernel
theorem dX6_divide_83 : decode cX6_divide 83 = .ok (.invokevirtual 47, 3) := by decide +kernel
theorem dX6_divide_86 : decode cX6_divide 86 = .ok (.aload_n 0, 1) := by decide +kernel
theorem dX6_divide_87 : decode cX6_divide 87 = .ok (.getfield 10, 3) := by decide +kernel
theorem dX6_divide_90 : decode cX6_divide 90 = .ok (.invokevirtual 33, 3) := by decide +kernel
theorem dX6_divide_93 : decode cX6_divide 93 = .ok (.istore 4, 2) := by decide +kernel
theorem dX6_divide_95 : decode cX6_divide 95 = .ok (.goto (-68), 3) := by decide +kernel
theorem dX6_divide_98 : decode cX6_divide 98 = .ok (.aload_n 0, 1) := by decide +kernel
theorem dX6_divide_99 : decode cX6_divide 99 = .ok (.getfield 10, 3) := by decide +kernel
theorem dX6_divide_102 : decode cX6_divide 102 = .ok (.astore 4, 2) := by decide +kernel
theorem dX6_divide_104 : decode cX6_divide 104 = .ok (.aload_n 0, 1) := by decide +kernel
theorem dX6_divide_105 : decode cX6_divide 105 = .ok (.aload_n 0, 1) := by decide +kernel
theorem dX6_divide_106 : decode cX6_divide 106 = .ok (.getfield 16, 3) := by decide +kernel
theorem dX6_divide_109 : decode cX6_divide 109 = .ok (.putfield 10, 3) := by decide +kernel
theorem dX6_divide_112 : decode cX6_divide 112 = .ok (.aload_n 0, 1) := by decide +kernel
theorem dX6_divide_113 : decode cX6_divide 113 = .ok (.aload 4, 2) := by decide +kernel
theorem dX6_divide_115 : decode cX6_divide 115 = .ok (.putfield 16, 3) := by decide +kernel
theorem dX6_divide_118 : decode cX6_divide 118 = .ok (.aload_n 0, 1) := by decide +kernel
theorem dX6_divide_119 : decode cX6_divide 119 = .ok (.getfield 19, 3) := by decide +kernel
theorem dX6_divide_122 : decode cX6_divide 122 = .ok (.astore 4, 2) := by decide +kernel
theorem dX6_divide_124 : decode cX6_divide 124 = .ok (.aload_n 0, 1) := by decide +kernel
theorem dX6_divide_125 : decode cX6_divide 125 = .ok (.aload_n 0, 1) := by decide +kernel
theorem dX6_divide_126 : decode cX6_divide 126 = .ok (.getfield 22, 3) := by decide +kernel
theorem dX6_divide_129 : decode cX6_divide 129 = .ok (.putfield 19, 3) := by decide +kernel
theorem dX6_divide_132 : decode cX6_divide 132 = .ok (.aload_n 0, 1) := by decide +kernel
theorem dX6_divide_133 : decode cX6_divide 133 = .ok (.aload 4, 2) := by decide +kernel
theorem dX6_divide_135 : decode cX6_divide 135 = .ok (.putfield 22, 3) := by decide +kernel
theorem dX6_divide_138 : decode cX6_divide 138 = .ok (.return_, 1) := by decide +kernel
theorem dX7_init_0 : decode cX7_init 0 = .ok (.aload_n 0, 1) := by decide +kernel
theorem dX7_init_1 : decode cX7_init 1 = .ok (.invokespecial 1, 3) := by decide +kernel
theorem dX7_init_4 : decode cX7_init 4 = .ok (.aload_n 0, 1) := by decide +kernel
theorem dX7_init_5 : decode cX7_init 5 = .ok (.new 7, 3) := by decide +kernel
theorem dX7_init_8 : decode cX7_init 8 = .ok (.dup, 1) := by decide +kernel
theorem dX7_init_9 : decode cX7_init 9 = .ok (.invokespecial 9, 3) := by decide +kernel
theorem dX7_init_12 : decode cX7_init 12 = .ok (.putfield 10, 3) := by decide +kernel
theorem dX7_init_15 : decode cX7_init 15 = .ok (.aload_n 0, 1) := by decide +kernel
theorem dX7_init_16 : decode cX7_init 16 = .ok (.new 7, 3) := by decide +kernel
theorem dX7_init_19 : decode cX7_init 19 = .ok (.dup, 1) := by decide +kernel
theorem dX7_init_20 : decode cX7_init 20 = .ok (.invokespecial 9, 3) := by decide +kernel
theorem dX7_init_23 : decode cX7_init 23 = .ok (.putfield 16, 3) := by decide +kernel
theorem dX7_init_26 : decode cX7_init 26 = .ok (.return_, 1) := by decide +kernel
theorem dX7_find_0 : decode cX7_find 0 = .ok (.aload 4, 2) := by decide +kernel
theorem dX7_find_2 : decode cX7_find 2 = .ok (.invokevirtual 19, 3) := by decide +kernel
theorem dX7_find_5 : decode cX7_find 5 = .ok (.pop, 1) := by decide +kernel
theorem dX7_find_6 : decode cX7_find 6 = .ok (.aload 4, 2) := by decide +kernel
theorem dX7_find_8 : decode cX7_find 8 = .ok (.getfield 23, 3) := by decide +kernel
theorem dX7_find_11 : decode cX7_find 11 = .ok (.iconst 0, 1) := by decide +kernel
theorem dX7_find_12 : decode cX7_find 12 = .ok (.iconst 1, 1) := by decide +kernel
theorem dX7_find_13 : decode cX7_find 13 = .ok (.iastore, 1) := by decide +kernel
theorem dX7_find_14 : decode cX7_find 14 = .ok (.aload_n 0, 1) := by decide +kernel
theorem dX7_find_15 : decode cX7_find 15 = .ok (.getfield 10, 3) := by decide +kernel
theorem dX7_find_18 : decode cX7_find 18 = .ok (.invokevirtual 19, 3) := by decide +kernel
theorem dX7_find_21 : decode cX7_find 21 = .ok (.pop, 1) := by decide +kernel
theorem dX7_find_22 : decode cX7_find 22 = .ok (.aload_n 0, 1) := by decide +kernel
theorem dX7_find_23 : decode cX7_find 23 = .ok (.getfield 10, 3) := by decide +kernel
theorem dX7_find_26 : decode cX7_find 26 = .ok (.getfield 23, 3) := by decide +kernel
theorem dX7_find_29 : decode cX7_find 29 = .ok (.iconst 0, 1) := by decide +kernel
theorem dX7_find_30 : decode cX7_find 30 = .ok (.iconst 1, 1) := by decide +kernel
theorem dX7_find_31 : decode cX7_find 31 = .ok (.iastore, 1) := by decide +kernel
theorem dX7_find_32 : decode cX7_find 32 = .ok (.iconst 0, 1) := by decide +kernel
theorem dX7_find_33 : decode cX7_find 33 = .ok (.istore 5, 2) := by decide +kernel
theorem dX7_find_35 : decode cX7_find 35 = .ok (.iconst 1, 1) := by decide +kernel
theorem dX7_find_36 : decode cX7_find 36 = .ok (.istore 6, 2) := by decide +kernel
theorem dX7_find_38 : decode cX7_find 38 = .ok (.iconst 1, 1) := by decide +kernel
theorem dX7_find_39 : decode cX7_find 39 = .ok (.istore 7, 2) := by decide +kernel
theorem dX7_find_41 : decode cX7_find 41 = .ok (.iconst 0, 1) := by decide +kernel
theorem dX7_find_42 : decode cX7_find 42 = .ok (.istore 8, 2) := by decide +kernel
theorem dX7_find_44 : decode cX7_find 44 = .ok (.iload 8, 2) := by decide +kernel
theorem dX7_find_46 : decode cX7_find 46 = .ok (.iconst 2, 1) := by decide +kernel
theorem dX7_find_47 : decode cX7_find 47 = .ok (.iload_n 3, 1) := by decide +kernel
theorem dX7_find_48 : decode cX7_find 48 = .ok (.imul, 1) := by decide +kernel
theorem dX7_find_49 : decode cX7_find 49 = .ok (.if_icmp .ge 154, 3) := by decide +kernel
theorem dX7_find_52 : decode cX7_find 52 = .ok (.iconst 0, 1) := by decide +kernel
theorem dX7_find_53 : decode cX7_find 53 = .ok (.istore 9, 2) := by decide +kernel
theorem dX7_find_55 : decode cX7_find 55 = .ok (.iconst 0, 1) := by decide +kernel
theorem dX7_find_56 : decode cX7_find 56 = .ok (.istore 10, 2) := by decide +kernel
theorem dX7_find_58 : decode cX7_find 58 = .ok (.iload 10, 2) := by decide +kernel
theorem dX7_find_60 : decode cX7_find 60 = .ok (.iload 5, 2) := by decide +kernel
theorem dX7_find_62 : decode cX7_find 62 = .ok (.if_icmp .gt 35, 3) := by decide +kernel
theorem dX7_find_65 : decode cX7_find 65 = .ok (.iload 9, 2) := by decide +kernel
theorem dX7_find_67 : decode cX7_find 67 = .ok (.aload_n 1, 1) := by decide +kernel
theorem dX7_find_68 : decode cX7_find 68 = .ok (.aload 4, 2) := by decide +kernel
theorem dX7_find_70 : decode cX7_find 70 = .ok (.getfield 23, 3) := by decide +kernel
theorem dX7_find_73 : decode cX7_find 73 = .ok (.iload 10, 2) := by decide +kernel
theorem dX7_find_75 : decode cX7_find 75 = .ok (.iaload, 1) := by decide +kernel
theorem dX7_find_76 : decode cX7_find 76 = .ok (.aload_n 2, 1) := by decide +kernel
theorem dX7_find_77 : decode cX7_find 77 = .ok (.iload 8, 2) := by decide +kernel
theorem dX7_find_79 : decode cX7_find 79 = .ok (.iconst 1, 1) := by decide +kernel
theorem dX7_find_80 : decode cX7_find 80 = .ok (.iadd, 1) := by decide +kernel
theorem dX7_find_81 : decode cX7_find 81 = .ok (.iload 10, 2) := by decide +kernel
theorem dX7_find_83 : decode cX7_find 83 = .ok (.isub, 1) := by decide +kernel
theorem dX7_find_84 : decode cX7_find 84 = .ok (.iaload, 1) := by decide +kernel
theorem dX7_find_85 : decode cX7_find 85 = .ok (.invokevirtual 27, 3) := by decide +kernel
theorem dX7_find_88 : decode cX7_find 88 = .ok (.ixor, 1) := by decide +kernel
theorem dX7_find_89 : decode cX7_find 89 = .ok (.istore 9, 2) := by decide +kernel
theorem dX7_find_91 : decode cX7_find 91 = .ok (.iinc 10 1, 3) := by decide +kernel
theorem dX7_find_94 : decode cX7_find 94 = .ok (.goto (-36), 3) := by decide +kernel
theorem dX7_find_97 : decode cX7_find 97 = .ok (.iload 9, 2) := by decide +kernel
theorem dX7_find_99 : decode cX7_find 99 = .ok (.ifCond .ne 9, 3) := by decide +kernel
theorem dX7_find_102 : decode cX7_find 102 = .ok (.iinc 6 1, 3) := by decide +kernel
theorem dX7_find_105 : decode cX7_find 105 = .ok (.goto 92, 3) := by decide +kernel
theorem dX7_find_108 : decode cX7_find 108 = .ok (.aload_n 0, 1) := by decide +kernel
theorem dX7_find_109 : decode cX7_find 109 = .ok (.getfield 16, 3) := by decide +kernel
theorem dX7_find_112 : decode cX7_find 112 = .ok (.aload 4, 2) := by decide +kernel
theorem dX7_find_114 : decode cX7_find 114 = .ok (.invokevirtual 33, 3) := by decide +kernel
theorem dX7_find_117 : decode cX7_find 117 = .ok (.aload 4, 2) := by decide +kernel
theorem dX7_find_119 : decode cX7_find 119 = .ok (.aload_n 1, 1) := by decide +kernel
theorem dX7_find_120 : decode cX7_find 120 = .ok (.aload_n 0, 1) := by decide +kernel
theorem dX7_find_121 : decode cX7_find 121 = .ok (.getfield 10, 3) := by decide +kernel
theorem dX7_find_124 : decode cX7_find 124 = .ok (.aload_n 1, 1) := by decide +kernel
theorem dX7_find_125 : decode cX7_find 125 = .ok (.iload 9, 2) := by decide +kernel
theorem dX7_find_127 : decode cX7_find 127 = .ok (.iload 7, 2) := by decide +kernel
theorem dX7_find_129 : decode cX7_find 129 = .ok (.invokevirtual 37, 3) := by decide +kernel
theorem dX7_find_132 : decode cX7_find 132 = .ok (.iload 6, 2) := by decide +kernel
theorem dX7_find_134 : decode cX7_find 134 = .ok (.invokevirtual 40, 3) := by decide +kernel
theorem dX7_find_137 : decode cX7_find 137 = .ok (.iconst 2, 1) := by decide +kernel
theorem dX7_find_138 : decode cX7_find 138 = .ok (.iload 5, 2) := by decide +kernel
theorem dX7_find_140 : decode cX7_find 140 = .ok (.imul, 1) := by decide +kernel
theorem dX7_find_141 : decode cX7_find 141 = .ok (.iload 8, 2) := by decide +kernel
theorem dX7_find_143 : decode cX7_find 143 = .ok (.if_icmp .gt 7, 3) := by decide +kernel
theorem dX7_find_146 : decode cX7_find 146 = .ok (.iconst 1, 1) := by decide +kernel
theorem dX7_find_147 : decode cX7_find 147 = .ok (.goto 4, 3) := by decide +kernel
theorem dX7_find_150 : decode cX7_find 150 = .ok (.iconst 0, 1) := by decide +kernel
theorem dX7_find_151 : decode cX7_find 151 = .ok (.istore 10, 2) := by decide +kernel
theorem dX7_find_153 : decode cX7_find 153 = .ok (.iload 10, 2) := by decide +kernel
theorem dX7_find_155 : decode cX7_find 155 = .ok (.ifCond .eq 27, 3) := by decide +kernel
theorem dX7_find_158 : decode cX7_find 158 = .ok (.iload 8, 2) := by decide +kernel
theorem dX7_find_160 : decode cX7_find 160 = .ok (.iconst 1, 1) := by decide +kernel
theorem dX7_find_161 : decode cX7_find 161 = .ok (.iadd, 1) := by decide +kernel
theorem dX7_find_162 : decode cX7_find 162 = .ok (.iload 5, 2) := by decide +kernel
theorem dX7_find_164 : decode cX7_find 164 = .ok (.isub, 1) := by decide +kernel
theorem dX7_find_165 : decode cX7_find 165 = .ok (.istore 5, 2) := by decide +kernel
theorem dX7_find_167 : decode cX7_find 167 = .ok (.aload_n 0, 1) := by decide +kernel
theorem dX7_find_168 : decode cX7_find 168 = .ok (.getfield 10, 3) := by decide +kernel
theorem dX7_find_171 : decode cX7_find 171 = .ok (.aload_n 0, 1) := by decide +kernel
theorem dX7_find_172 : decode cX7_find 172 = .ok (.getfield 16, 3) := by decide +kernel
theorem dX7_find_175 : decode cX7_find 175 = .ok (.invokevirtual 33, 3) := by decide +kernel
theorem dX7_find_178 : decode cX7_find 178 = .ok (.iload 9, 2) := by decide +kernel
theorem dX7_find_180 : decode cX7_find 180 = .ok (.istore 7, 2) := by decide +kernel
theorem dX7_find_182 : decode cX7_find 182 = .ok (.iload 10, 2) := by decide +kernel
theorem dX7_find_184 : decode cX7_find 184 = .ok (.ifCond .eq 7, 3) := by decide +kernel
theorem dX7_find_187 : decode cX7_find 187 = .ok (.iconst 1, 1) := by decide +kernel
theorem dX7_find_188 : decode cX7_find 188 = .ok (.goto 7, 3) := by decide +kernel
theorem dX7_find_191 : decode cX7_find 191 = .ok (.iload 6, 2) := by decide +kernel
theorem dX7_find_193 : decode cX7_find 193 = .ok (.iconst 1, 1) := by decide +kernel
theorem dX7_find_194 : decode cX7_find 194 = .ok (.iadd, 1) := by decide +kernel
theorem dX7_find_195 : decode cX7_find 195 = .ok (.istore 6, 2) := by decide +kernel
theorem dX7_find_197 : decode cX7_find 197 = .ok (.iinc 8 1, 3) := by decide +kernel
theorem dX7_find_200 : decode cX7_find 200 = .ok (.goto (-156), 3) := by decide +kernel
theorem dX7_find_203 : decode cX7_find 203 = .ok (.return_, 1) := by decide +kernel
