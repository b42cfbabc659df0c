set_option maxRecDepth 100000
theorem dX2_init_0 : decode cX2_init 0 = .ok (.aload_n 0, 1) := by decide +kernel
theorem dX2_init_1 : decode cX2_init 1 = .ok (.invokespecial 3, 3) := by decide +kernel
theorem dX2_init_4 : decode cX2_init 4 = .ok (.aload_n 0, 1) := by decide +kernel
theorem dX2_init_5 : decode cX2_init 5 = .ok (.new 9, 3) := by decide +kernel
theorem dX2_init_8 : decode cX2_init 8 = .ok (.dup, 1) := by decide +kernel
theorem dX2_init_9 : decode cX2_init 9 = .ok (.invokespecial 11, 3) := by decide +kernel
theorem dX2_init_12 : decode cX2_init 12 = .ok (.putfield 12, 3) := by decide +kernel
theorem dX2_init_15 : decode cX2_init 15 = .ok (.aload_n 0, 1) := by decide +kernel
theorem dX2_init_16 : decode cX2_init 16 = .ok (.bipush 7, 2) := by decide +kernel
theorem dX2_init_18 : decode cX2_init 18 = .ok (.newarray .int, 2) := by decide +kernel
theorem dX2_init_20 : decode cX2_init 20 = .ok (.putfield 18, 3) := by decide +kernel
theorem dX2_init_23 : decode cX2_init 23 = .ok (.aload_n 0, 1) := by decide +kernel
theorem dX2_init_24 : decode cX2_init 24 = .ok (.new 22, 3) := by decide +kernel
theorem dX2_init_27 : decode cX2_init 27 = .ok (.dup, 1) := by decide +kernel
theorem dX2_init_28 : decode cX2_init 28 = .ok (.invokespecial 24, 3) := by decide +kernel
theorem dX2_init_31 : decode cX2_init 31 = .ok (.putfield 25, 3) := by decide +kernel
theorem dX2_init_34 : decode cX2_init 34 = .ok (.return_, 1) := by decide +kernel
theorem dX2_make_0 : decode cX2_make 0 = .ok (.aload_n 0, 1) := by decide +kernel
theorem dX2_make_1 : decode cX2_make 1 = .ok (.iload_n 2, 1) := by decide +kernel
theorem dX2_make_2 : decode cX2_make 2 = .ok (.putfield 29, 3) := by decide +kernel
theorem dX2_make_5 : decode cX2_make 5 = .ok (.aload_n 0, 1) := by decide +kernel
theorem dX2_make_6 : decode cX2_make 6 = .ok (.getfield 12, 3) := by decide +kernel
theorem dX2_make_9 : decode cX2_make 9 = .ok (.iload_n 1, 1) := by decide +kernel
theorem dX2_make_10 : decode cX2_make 10 = .ok (.invokevirtual 33, 3) := by decide +kernel
theorem dX2_make_13 : decode cX2_make 13 = .ok (.ifCond .ne 5, 3) := by decide +kernel
theorem dX2_make_16 : decode cX2_make 16 = .ok (.iconst 0, 1) := by decide +kernel
theorem dX2_make_17 : decode cX2_make 17 = .ok (.ireturn, 1) := by decide +kernel
theorem dX2_make_18 : decode cX2_make 18 = .ok (.aload_n 0, 1) := by decide +kernel
theorem dX2_make_19 : decode cX2_make 19 = .ok (.iconst 1, 1) := by decide +kernel
theorem dX2_make_20 : decode cX2_make 20 = .ok (.putfield 37, 3) := by decide +kernel
theorem dX2_make_23 : decode cX2_make 23 = .ok (.iconst 1, 1) := by decide +kernel
theorem dX2_make_24 : decode cX2_make 24 = .ok (.istore_n 3, 1) := by decide +kernel
theorem dX2_make_25 : decode cX2_make 25 = .ok (.iload_n 3, 1) := by decide +kernel
theorem dX2_make_26 : decode cX2_make 26 = .ok (.iconst 2, 1) := by decide +kernel
theorem dX2_make_27 : decode cX2_make 27 = .ok (.aload_n 0, 1) := by decide +kernel
theorem dX2_make_28 : decode cX2_make 28 = .ok (.getfield 29, 3) := by decide +kernel
theorem dX2_make_31 : decode cX2_make 31 = .ok (.imul, 1) := by decide +kernel
theorem dX2_make_32 : decode cX2_make 32 = .ok (.if_icmp .gt 40, 3) := by decide +kernel
theorem dX2_make_35 : decode cX2_make 35 = .ok (.aload_n 0, 1) := by decide +kernel
theorem dX2_make_36 : decode cX2_make 36 = .ok (.getfield 12, 3) := by decide +kernel
theorem dX2_make_39 : decode cX2_make 39 = .ok (.aload_n 0, 1) := by decide +kernel
theorem dX2_make_40 : decode cX2_make 40 = .ok (.getfield 37, 3) := by decide +kernel
theorem dX2_make_43 : decode cX2_make 43 = .ok (.iload_n 3, 1) := by decide +kernel
theorem dX2_make_44 : decode cX2_make 44 = .ok (.invokevirtual 40, 3) := by decide +kernel
theorem dX2_make_47 : decode cX2_make 47 = .ok (.ifCond .eq 19, 3) := by decide +kernel
theorem dX2_make_50 : decode cX2_make 50 = .ok (.aload_n 0, 1) := by decide +kernel
theorem dX2_make_51 : decode cX2_make 51 = .ok (.aload_n 0, 1) := by decide +kernel
theorem dX2_make_52 : decode cX2_make 52 = .ok (.getfield 37, 3) := by decide +kernel
theorem dX2_make_55 : decode cX2_make 55 = .ok (.aload_n 0, 1) := by decide +kernel
theorem dX2_make_56 : decode cX2_make 56 = .ok (.iload_n 3, 1) := by decide +kernel
theorem dX2_make_57 : decode cX2_make 57 = .ok (.invokevirtual 44, 3) := by decide +kernel
theorem dX2_make_60 : decode cX2_make 60 = .ok (.invokestatic 48, 3) := by decide +kernel
theorem dX2_make_63 : decode cX2_make 63 = .ok (.putfield 37, 3) := by decide +kernel
theorem dX2_make_66 : decode cX2_make 66 = .ok (.iinc 3 1, 3) := by decide +kernel
theorem dX2_make_69 : decode cX2_make 69 = .ok (.goto (-44), 3) := by decide +kernel
theorem dX2_make_72 : decode cX2_make 72 = .ok (.aload_n 0, 1) := by decide +kernel
theorem dX2_make_73 : decode cX2_make 73 = .ok (.aload_n 0, 1) := by decide +kernel
theorem dX2_make_74 : decode cX2_make 74 = .ok (.getfield 12, 3) := by decide +kernel
theorem dX2_make_77 : decode cX2_make 77 = .ok (.getfield 51, 3) := by decide +kernel
theorem dX2_make_80 : decode cX2_make 80 = .ok (.aload_n 0, 1) := by decide +kernel
theorem dX2_make_81 : decode cX2_make 81 = .ok (.getfield 37, 3) := by decide +kernel
theorem dX2_make_84 : decode cX2_make 84 = .ok (.invokestatic 54, 3) := by decide +kernel
theorem dX2_make_87 : decode cX2_make 87 = .ok (.isub, 1) := by decide +kernel
theorem dX2_make_88 : decode cX2_make 88 = .ok (.putfield 57, 3) := by decide +kernel
theorem dX2_make_91 : decode cX2_make 91 = .ok (.iconst 1, 1) := by decide +kernel
theorem dX2_make_92 : decode cX2_make 92 = .ok (.ireturn, 1) := by decide +kernel
theorem dX2_least_0 : decode cX2_least 0 = .ok (.aload_n 0, 1) := by decide +kernel
theorem dX2_least_1 : decode cX2_least 1 = .ok (.getfield 25, 3) := by decide +kernel
theorem dX2_least_4 : decode cX2_least 4 = .ok (.invokevirtual 60, 3) := by decide +kernel
theorem dX2_least_7 : decode cX2_least 7 = .ok (.astore_n 2, 1) := by decide +kernel
theorem dX2_least_8 : decode cX2_least 8 = .ok (.aload_n 2, 1) := by decide +kernel
theorem dX2_least_9 : decode cX2_least 9 = .ok (.getfield 64, 3) := by decide +kernel
theorem dX2_least_12 : decode cX2_least 12 = .ok (.iconst 0, 1) := by decide +kernel
theorem dX2_least_13 : decode cX2_least 13 = .ok (.iconst 1, 1) := by decide +kernel
theorem dX2_least_14 : decode cX2_least 14 = .ok (.iastore, 1) := by decide +kernel
theorem dX2_least_15 : decode cX2_least 15 = .ok (.iload_n 1, 1) := by decide +kernel
theorem dX2_least_16 : decode cX2_least 16 = .ok (.aload_n 0, 1) := by decide +kernel
theorem dX2_least_17 : decode cX2_least 17 = .ok (.getfield 12, 3) := by decide +kernel
theorem dX2_least_20 : decode cX2_least 20 = .ok (.getfield 51, 3) := by decide +kernel
theorem dX2_least_23 : decode cX2_least 23 = .ok (.irem, 1) := by decide +kernel
theorem dX2_least_24 : decode cX2_least 24 = .ok (.istore_n 3, 1) := by decide +kernel
theorem dX2_least_25 : decode cX2_least 25 = .ok (.aload_n 2, 1) := by decide +kernel
theorem dX2_least_26 : decode cX2_least 26 = .ok (.getfield 64, 3) := by decide +kernel
theorem dX2_least_29 : decode cX2_least 29 = .ok (.arraylength, 1) := by decide +kernel
theorem dX2_least_30 : decode cX2_least 30 = .ok (.iconst 1, 1) := by decide +kernel
theorem dX2_least_31 : decode cX2_least 31 = .ok (.isub, 1) := by decide +kernel
theorem dX2_least_32 : decode cX2_least 32 = .ok (.istore 4, 2) := by decide +kernel
theorem dX2_least_34 : decode cX2_least 34 = .ok (.iload 4, 2) := by decide +kernel
theorem dX2_least_36 : decode cX2_least 36 = .ok (.ifCond .lt 58, 3) := by decide +kernel
theorem dX2_least_39 : decode cX2_least 39 = .ok (.aload_n 2, 1) := by decide +kernel
theorem dX2_least_40 : decode cX2_least 40 = .ok (.getfield 64, 3) := by decide +kernel
theorem dX2_least_43 : decode cX2_least 43 = .ok (.iload 4, 2) := by decide +kernel
theorem dX2_least_45 : decode cX2_least 45 = .ok (.iload 4, 2) := by decide +kernel
theorem dX2_least_47 : decode cX2_least 47 = .ok (.ifCond .le 15, 3) := by decide +kernel
theorem dX2_least_50 : decode cX2_least 50 = .ok (.aload_n 2, 1) := by decide +kernel
theorem dX2_least_51 : decode cX2_least 51 = .ok (.getfield 64, 3) := by decide +kernel
theorem dX2_least_54 : decode cX2_least 54 = .ok (.iload 4, 2) := by decide +kernel
theorem dX2_least_56 : decode cX2_least 56 = .ok (.iconst 1, 1) := by decide +kernel
theorem dX2_least_57 : decode cX2_least 57 = .ok (.isub, 1) := by decide +kernel
theorem dX2_least_58 : decode cX2_least 58 = .ok (.iaload, 1) := by decide +kernel
theorem dX2_least_59 : decode cX2_least 59 = .ok (.goto 4, 3) := by decide +kernel
theorem dX2_least_62 : decode cX2_least 62 = .ok (.iconst 0, 1) := by decide +kernel
theorem dX2_least_63 : decode cX2_least 63 = .ok (.aload_n 0, 1) := by decide +kernel
theorem dX2_least_64 : decode cX2_least 64 = .ok (.getfield 12, 3) := by decide +kernel
theorem dX2_least_67 : decode cX2_least 67 = .ok (.aload_n 2, 1) := by decide +kernel
theorem dX2_least_68 : decode cX2_least 68 = .ok (.getfield 64, 3) := by decide +kernel
theorem dX2_least_71 : decode cX2_least 71 = .ok (.iload 4, 2) := by decide +kernel
theorem dX2_least_73 : decode cX2_least 73 = .ok (.iaload, 1) := by decide +kernel
theorem dX2_least_74 : decode cX2_least 74 = .ok (.aload_n 0, 1) := by decide +kernel
theorem dX2_least_75 : decode cX2_least 75 = .ok (.getfield 12, 3) := by decide +kernel
theorem dX2_least_78 : decode cX2_least 78 = .ok (.getfield 67, 3) := by decide +kernel
theorem dX2_least_81 : decode cX2_least 81 = .ok (.iload_n 3, 1) := by decide +kernel
theorem dX2_least_82 : decode cX2_least 82 = .ok (.iaload, 1) := by decide +kernel
theorem dX2_least_83 : decode cX2_least 83 = .ok (.invokevirtual 70, 3) := by decide +kernel
theorem dX2_least_86 : decode cX2_least 86 = .ok (.ixor, 1) := by decide +kernel
theorem dX2_least_87 : decode cX2_least 87 = .ok (.iastore, 1) := by decide +kernel
theorem dX2_least_88 : decode cX2_least 88 = .ok (.iinc 4 (-1), 3) := by decide +kernel
theorem dX2_least_91 : decode cX2_least 91 = .ok (.goto (-57), 3) := by decide +kernel
theorem dX2_least_94 : decode cX2_least 94 = .ok (.iconst 2, 1) := by decide +kernel
theorem dX2_least_95 : decode cX2_least 95 = .ok (.iload_n 3, 1) := by decide +kernel
theorem dX2_least_96 : decode cX2_least 96 = .ok (.imul, 1) := by decide +kernel
theorem dX2_least_97 : decode cX2_least 97 = .ok (.aload_n 0, 1) := by decide +kernel
theorem dX2_least_98 : decode cX2_least 98 = .ok (.getfield 12, 3) := by decide +kernel
theorem dX2_least_101 : decode cX2_least 101 = .ok (.getfield 51, 3) := by decide +kernel
theorem dX2_least_104 : decode cX2_least 104 = .ok (.irem, 1) := by decide +kernel
theorem dX2_least_105 : decode cX2_least 105 = .ok (.istore_n 3, 1) := by decide +kernel
theorem dX2_least_106 : decode cX2_least 106 = .ok (.iload_n 3, 1) := by decide +kernel
theorem dX2_least_107 : decode cX2_least 107 = .ok (.iload_n 1, 1) := by decide +kernel
theorem dX2_least_108 : decode cX2_least 108 = .ok (.aload_n 0, 1) := by decide +kernel
theorem dX2_least_109 : decode cX2_least 109 = .ok (.getfield 12, 3) := by decide +kernel
theorem dX2_least_112 : decode cX2_least 112 = .ok (.getfield 51, 3) := by decide +kernel
theorem dX2_least_115 : decode cX2_least 115 = .ok (.irem, 1) := by decide +kernel
theorem dX2_least_116 : decode cX2_least 116 = .ok (.if_icmp .ne (-91), 3) := by decide +kernel
theorem dX2_least_119 : decode cX2_least 119 = .ok (.iconst 0, 1) := by decide +kernel
theorem dX2_least_120 : decode cX2_least 120 = .ok (.istore 4, 2) := by decide +kernel
theorem dX2_least_122 : decode cX2_least 122 = .ok (.iconst 0, 1) := by decide +kernel
theorem dX2_least_123 : decode cX2_least 123 = .ok (.istore 5, 2) := by decide +kernel
theorem dX2_least_125 : decode cX2_least 125 = .ok (.iload 5, 2) := by decide +kernel
theorem dX2_least_127 : decode cX2_least 127 = .ok (.aload_n 2, 1) := by decide +kernel
theorem dX2_least_128 : decode cX2_least 128 = .ok (.getfield 64, 3) := by decide +kernel
theorem dX2_least_131 : decode cX2_least 131 = .ok (.arraylength, 1) := by decide +kernel
theorem dX2_least_132 : decode cX2_least 132 = .ok (.if_icmp .ge 24, 3) := by decide +kernel
theorem dX2_least_135 : decode cX2_least 135 = .ok (.iload 4, 2) := by decide +kernel
theorem dX2_least_137 : decode cX2_least 137 = .ok (.aload_n 2, 1) := by decide +kernel
theorem dX2_least_138 : decode cX2_least 138 = .ok (.getfield 64, 3) := by decide +kernel
theorem dX2_least_141 : decode cX2_least 141 = .ok (.iload 5, 2) := by decide +kernel
theorem dX2_least_143 : decode cX2_least 143 = .ok (.iaload, 1) := by decide +kernel
theorem dX2_least_144 : decode cX2_least 144 = .ok (.iload 5, 2) := by decide +kernel
theorem dX2_least_146 : decode cX2_least 146 = .ok (.ishl, 1) := by decide +kernel
theorem dX2_least_147 : decode cX2_least 147 = .ok (.ior, 1) := by decide +kernel
theorem dX2_least_148 : decode cX2_least 148 = .ok (.istore 4, 2) := by decide +kernel
theorem dX2_least_150 : decode cX2_least 150 = .ok (.iinc 5 1, 3) := by decide +kernel
theorem dX2_least_153 : decode cX2_least 153 = .ok (.goto (-28), 3) := by decide +kernel
theorem dX2_least_156 : decode cX2_least 156 = .ok (.iload 4, 2) := by decide +kernel
theorem dX2_least_158 : decode cX2_least 158 = .ok (.ireturn, 1) := by decide +kernel
theorem dX2_product_0 : decode cX2_product 0 = .ok (.lconst 0, 1) := by decide +kernel
theorem dX2_product_1 : decode cX2_product 1 = .ok (.lstore_n 2, 1) := by decide +kernel
theorem dX2_product_2 : decode cX2_product 2 = .ok (.iconst 0, 1) := by decide +kernel
theorem dX2_product_3 : decode cX2_product 3 = .ok (.istore 4, 2) := by decide +kernel
theorem dX2_product_5 : decode cX2_product 5 = .ok (.iload 4, 2) := by decide +kernel
theorem dX2_product_7 : decode cX2_product 7 = .ok (.bipush 31, 2) := by decide +kernel
theorem dX2_product_9 : decode cX2_product 9 = .ok (.if_icmp .gt 30, 3) := by decide +kernel
theorem dX2_product_12 : decode cX2_product 12 = .ok (.lload_n 2, 1) := by decide +kernel
theorem dX2_product_13 : decode cX2_product 13 = .ok (.iload_n 1, 1) := by decide +kernel
theorem dX2_product_14 : decode cX2_product 14 = .ok (.iload 4, 2) := by decide +kernel
theorem dX2_product_16 : decode cX2_product 16 = .ok (.ishr, 1) := by decide +kernel
theorem dX2_product_17 : decode cX2_product 17 = .ok (.iconst 1, 1) := by decide +kernel
theorem dX2_product_18 : decode cX2_product 18 = .ok (.iand, 1) := by decide +kernel
theorem dX2_product_19 : decode cX2_product 19 = .ok (.ifCond .ne 7, 3) := by decide +kernel
theorem dX2_product_22 : decode cX2_product 22 = .ok (.lconst 0, 1) := by decide +kernel
theorem dX2_product_23 : decode cX2_product 23 = .ok (.goto 8, 3) := by decide +kernel
theorem dX2_product_26 : decode cX2_product 26 = .ok (.iload_n 0, 1) := by decide +kernel
theorem dX2_product_27 : decode cX2_product 27 = .ok (.i2l, 1) := by decide +kernel
theorem dX2_product_28 : decode cX2_product 28 = .ok (.iload 4, 2) := by decide +kernel
theorem dX2_product_30 : decode cX2_product 30 = .ok (.lshl, 1) := by decide +kernel
theorem dX2_product_31 : decode cX2_product 31 = .ok (.lxor, 1) := by decide +kernel
theorem dX2_product_32 : decode cX2_product 32 = .ok (.lstore_n 2, 1) := by decide +kernel
theorem dX2_product_33 : decode cX2_product 33 = .ok (.iinc 4 1, 3) := by decide +kernel
theorem dX2_product_36 : decode cX2_product 36 = .ok (.goto (-31), 3) := by decide +kernel
theorem dX2_product_39 : decode cX2_product 39 = .ok (.lload_n 2, 1) := by decide +kernel
theorem dX2_product_40 : decode cX2_product 40 = .ok (.l2i, 1) := by decide +kernel
theorem dX2_product_41 : decode cX2_product 41 = .ok (.ireturn, 1) := by decide +kernel
theorem dX2_encode_0 : decode cX2_encode 0 = .ok (.aload_n 0, 1) := by decide +kernel
theorem dX2_encode_1 : decode cX2_encode 1 = .ok (.getfield 12, 3) := by decide +kernel
theorem dX2_encode_4 : decode cX2_encode 4 = .ok (.getfield 51, 3) := by decide +kernel
theorem dX2_encode_7 : decode cX2_encode 7 = .ok (.aload_n 0, 1) := by decide +kernel
theorem dX2_encode_8 : decode cX2_encode 8 = .ok (.getfield 57, 3) := by decide +kernel
theorem dX2_encode_11 : decode cX2_encode 11 = .ok (.isub, 1) := by decide +kernel
theorem dX2_encode_12 : decode cX2_encode 12 = .ok (.istore_n 2, 1) := by decide +kernel
theorem dX2_encode_13 : decode cX2_encode 13 = .ok (.iload_n 1, 1) := by decide +kernel
theorem dX2_encode_14 : decode cX2_encode 14 = .ok (.iload_n 2, 1) := by decide +kernel
theorem dX2_encode_15 : decode cX2_encode 15 = .ok (.ishl, 1) := by decide +kernel
theorem dX2_encode_16 : decode cX2_encode 16 = .ok (.istore_n 3, 1) := by decide +kernel
theorem dX2_encode_17 : decode cX2_encode 17 = .ok (.aload_n 0, 1) := by decide +kernel
theorem dX2_encode_18 : decode cX2_encode 18 = .ok (.getfield 12, 3) := by decide +kernel
theorem dX2_encode_21 : decode cX2_encode 21 = .ok (.getfield 51, 3) := by decide +kernel
theorem dX2_encode_24 : decode cX2_encode 24 = .ok (.iconst 1, 1) := by decide +kernel
theorem dX2_encode_25 : decode cX2_encode 25 = .ok (.isub, 1) := by decide +kernel
theorem dX2_encode_26 : decode cX2_encode 26 = .ok (.istore 4, 2) := by decide +kernel
theorem dX2_encode_28 : decode cX2_encode 28 = .ok (.iload 4, 2) := by decide +kernel
theorem dX2_encode_30 : decode cX2_encode 30 = .ok (.iload_n 2, 1) := by decide +kernel
theorem dX2_encode_31 : decode cX2_encode 31 = .ok (.if_icmp .lt 34, 3) := by decide +kernel
theorem dX2_encode_34 : decode cX2_encode 34 = .ok (.iload_n 3, 1) := by decide +kernel
theorem dX2_encode_35 : decode cX2_encode 35 = .ok (.iload_n 3, 1) := by decide +kernel
theorem dX2_encode_36 : decode cX2_encode 36 = .ok (.iload 4, 2) := by decide +kernel
theorem dX2_encode_38 : decode cX2_encode 38 = .ok (.ishr, 1) := by decide +kernel
theorem dX2_encode_39 : decode cX2_encode 39 = .ok (.iconst 1, 1) := by decide +kernel
theorem dX2_encode_40 : decode cX2_encode 40 = .ok (.iand, 1) := by decide +kernel
theorem dX2_encode_41 : decode cX2_encode 41 = .ok (.ifCond .ne 7, 3) := by decide +kernel
theorem dX2_encode_44 : decode cX2_encode 44 = .ok (.iconst 0, 1) := by decide +kernel
theorem dX2_encode_45 : decode cX2_encode 45 = .ok (.goto 12, 3) := by decide +kernel
theorem dX2_encode_48 : decode cX2_encode 48 = .ok (.aload_n 0, 1) := by decide +kernel
theorem dX2_encode_49 : decode cX2_encode 49 = .ok (.getfield 37, 3) := by decide +kernel
theorem dX2_encode_52 : decode cX2_encode 52 = .ok (.iload 4, 2) := by decide +kernel
theorem dX2_encode_54 : decode cX2_encode 54 = .ok (.iload_n 2, 1) := by decide +kernel
theorem dX2_encode_55 : decode cX2_encode 55 = .ok (.isub, 1) := by decide +kernel
theorem dX2_encode_56 : decode cX2_encode 56 = .ok (.ishl, 1) := by decide +kernel
theorem dX2_encode_57 : decode cX2_encode 57 = .ok (.ixor, 1) := by decide +kernel
theorem dX2_encode_58 : decode cX2_encode 58 = .ok (.istore_n 3, 1) := by decide +kernel
theorem dX2_encode_59 : decode cX2_encode 59 = .ok (.iinc 4 (-1), 3) := by decide +kernel
theorem dX2_encode_62 : decode cX2_encode 62 = .ok (.goto (-34), 3) := by decide +kernel
theorem dX2_encode_65 : decode cX2_encode 65 = .ok (.iload_n 1, 1) := by decide +kernel
theorem dX2_encode_66 : decode cX2_encode 66 = .ok (.iload_n 2, 1) := by decide +kernel
theorem dX2_encode_67 : decode cX2_encode 67 = .ok (.ishl, 1) := by decide +kernel
theorem dX2_encode_68 : decode cX2_encode 68 = .ok (.iload_n 3, 1) := by decide +kernel
theorem dX2_encode_69 : decode cX2_encode 69 = .ok (.ior, 1) := by decide +kernel
theorem dX2_encode_70 : decode cX2_encode 70 = .ok (.ireturn, 1) := by decide +kernel
theorem dX2_mended_0 : decode cX2_mended 0 = .ok (.aload_n 0, 1) := by decide +kernel
theorem dX2_mended_1 : decode cX2_mended 1 = .ok (.iload_n 1, 1) := by decide +kernel
theorem dX2_mended_2 : decode cX2_mended 2 = .ok (.invokevirtual 73, 3) := by decide +kernel
theorem dX2_mended_5 : decode cX2_mended 5 = .ok (.ifCond .eq 5, 3) := by decide +kernel
theorem dX2_mended_8 : decode cX2_mended 8 = .ok (.iload_n 1, 1) := by decide +kernel
theorem dX2_mended_9 : decode cX2_mended 9 = .ok (.ireturn, 1) := by decide +kernel
theorem dX2_mended_10 : decode cX2_mended 10 = .ok (.aload_n 2, 1) := by decide +kernel
theorem dX2_mended_11 : decode cX2_mended 11 = .ok (.aload_n 0, 1) := by decide +kernel
theorem dX2_mended_12 : decode cX2_mended 12 = .ok (.getfield 12, 3) := by decide +kernel
theorem dX2_mended_15 : decode cX2_mended 15 = .ok (.aload_n 0, 1) := by decide +kernel
theorem dX2_mended_16 : decode cX2_mended 16 = .ok (.getfield 18, 3) := by decide +kernel
theorem dX2_mended_19 : decode cX2_mended 19 = .ok (.aload_n 0, 1) := by decide +kernel
theorem dX2_mended_20 : decode cX2_mended 20 = .ok (.getfield 29, 3) := by decide +kernel
theorem dX2_mended_23 : decode cX2_mended 23 = .ok (.aload_n 0, 1) := by decide +kernel
theorem dX2_mended_24 : decode cX2_mended 24 = .ok (.getfield 25, 3) := by decide +kernel
theorem dX2_mended_27 : decode cX2_mended 27 = .ok (.invokeinterface 76 5, 5) := by decide +kernel
theorem dX2_mended_32 : decode cX2_mended 32 = .ok (.iconst 0, 1) := by decide +kernel
theorem dX2_mended_33 : decode cX2_mended 33 = .ok (.istore_n 3, 1) := by decide +kernel
theorem dX2_mended_34 : decode cX2_mended 34 = .ok (.iconst 0, 1) := by decide +kernel
theorem dX2_mended_35 : decode cX2_mended 35 = .ok (.istore 4, 2) := by decide +kernel
theorem dX2_mended_37 : decode cX2_mended 37 = .ok (.iload 4, 2) := by decide +kernel
theorem dX2_mended_39 : decode cX2_mended 39 = .ok (.aload_n 0, 1) := by decide +kernel
theorem dX2_mended_40 : decode cX2_mended 40 = .ok (.getfield 12, 3) := by decide +kernel
theorem dX2_mended_43 : decode cX2_mended 43 = .ok (.getfield 51, 3) := by decide +kernel
theorem dX2_mended_46 : decode cX2_mended 46 = .ok (.if_icmp .ge 52, 3) := by decide +kernel
theorem dX2_mended_49 : decode cX2_mended 49 = .ok (.iload_n 3, 1) := by decide +kernel
theorem dX2_mended_50 : decode cX2_mended 50 = .ok (.aload_n 0, 1) := by decide +kernel
theorem dX2_mended_51 : decode cX2_mended 51 = .ok (.getfield 25, 3) := by decide +kernel
theorem dX2_mended_54 : decode cX2_mended 54 = .ok (.aload_n 0, 1) := by decide +kernel
theorem dX2_mended_55 : decode cX2_mended 55 = .ok (.getfield 12, 3) := by decide +kernel
theorem dX2_mended_58 : decode cX2_mended 58 = .ok (.aload_n 0, 1) := by decide +kernel
theorem dX2_mended_59 : decode cX2_mended 59 = .ok (.getfield 12, 3) := by decide +kernel
theorem dX2_mended_62 : decode cX2_mended 62 = .ok (.getfield 51, 3) := by decide +kernel
theorem dX2_mended_65 : decode cX2_mended 65 = .ok (.iload 4, 2) := by decide +kernel
theorem dX2_mended_67 : decode cX2_mended 67 = .ok (.isub, 1) := by decide +kernel
theorem dX2_mended_68 : decode cX2_mended 68 = .ok (.aload_n 0, 1) := by decide +kernel
theorem dX2_mended_69 : decode cX2_mended 69 = .ok (.getfield 12, 3) := by decide +kernel
theorem dX2_mended_72 : decode cX2_mended 72 = .ok (.getfield 51, 3) := by decide +kernel
theorem dX2_mended_75 : decode cX2_mended 75 = .ok (.irem, 1) := by decide +kernel
theorem dX2_mended_76 : decode cX2_mended 76 = .ok (.invokevirtual 82, 3) := by decide +kernel
theorem dX2_mended_79 : decode cX2_mended 79 = .ok (.ifCond .ne 10, 3) := by decide +kernel
theorem dX2_mended_82 : decode cX2_mended 82 = .ok (.iconst 1, 1) := by decide +kernel
theorem dX2_mended_83 : decode cX2_mended 83 = .ok (.iload 4, 2) := by decide +kernel
theorem dX2_mended_85 : decode cX2_mended 85 = .ok (.ishl, 1) := by decide +kernel
theorem dX2_mended_86 : decode cX2_mended 86 = .ok (.goto 4, 3) := by decide +kernel
theorem dX2_mended_89 : decode cX2_mended 89 = .ok (.iconst 0, 1) := by decide +kernel
theorem dX2_mended_90 : decode cX2_mended 90 = .ok (.ior, 1) := by decide +kernel
theorem dX2_mended_91 : decode cX2_mended 91 = .ok (.istore_n 3, 1) := by decide +kernel
theorem dX2_mended_92 : decode cX2_mended 92 = .ok (.iinc 4 1, 3) := by decide +kernel
theorem dX2_mended_95 : decode cX2_mended 95 = .ok (.goto (-58), 3) := by decide +kernel
theorem dX2_mended_98 : decode cX2_mended 98 = .ok (.iload_n 3, 1) := by decide +kernel
theorem dX2_mended_99 : decode cX2_mended 99 = .ok (.invokestatic 86, 3) := by decide +kernel
theorem dX2_mended_102 : decode cX2_mended 102 = .ok (.aload_n 0, 1) := by decide +kernel
theorem dX2_mended_103 : decode cX2_mended 103 = .ok (.getfield 29, 3) := by decide +kernel
theorem dX2_mended_106 : decode cX2_mended 106 = .ok (.if_icmp .gt 13, 3) := by decide +kernel
theorem dX2_mended_109 : decode cX2_mended 109 = .ok (.aload_n 0, 1) := by decide +kernel
theorem dX2_mended_110 : decode cX2_mended 110 = .ok (.iload_n 1, 1) := by decide +kernel
theorem dX2_mended_111 : decode cX2_mended 111 = .ok (.iload_n 3, 1) := by decide +kernel
theorem dX2_mended_112 : decode cX2_mended 112 = .ok (.ixor, 1) := by decide +kernel
theorem dX2_mended_113 : decode cX2_mended 113 = .ok (.invokevirtual 73, 3) := by decide +kernel
theorem dX2_mended_116 : decode cX2_mended 116 = .ok (.ifCond .ne 13, 3) := by decide +kernel
theorem dX2_mended_119 : decode cX2_mended 119 = .ok (.new 91, 3) := by decide +kernel
theorem dX2_mended_122 : decode cX2_mended 122 = .ok (.dup, 1) := by decide +kernel
theorem dX2_mended_123 : decode cX2_mended 123 = .ok (.ldc 93, 2) := by decide +kernel
theorem dX2_mended_125 : decode cX2_mended 125 = .ok (.invokespecial 95, 3) := by decide +kernel
theorem dX2_mended_128 : decode cX2_mended 128 = .ok (.athrow, 1) := by decide +kernel
theorem dX2_mended_129 : decode cX2_mended 129 = .ok (.iload_n 1, 1) := by decide +kernel
theorem dX2_mended_130 : decode cX2_mended 130 = .ok (.iload_n 3, 1) := by decide +kernel
theorem dX2_mended_131 : decode cX2_mended 131 = .ok (.ixor, 1) := by decide +kernel
theorem dX2_mended_132 : decode cX2_mended 132 = .ok (.ireturn, 1) := by decide +kernel
theorem dX2_isRight_0 : decode cX2_isRight 0 = .ok (.iconst 1, 1) := by decide +kernel
theorem dX2_isRight_1 : decode cX2_isRight 1 = .ok (.istore_n 2, 1) := by decide +kernel
theorem dX2_isRight_2 : decode cX2_isRight 2 = .ok (.iconst 1, 1) := by decide +kernel
theorem dX2_isRight_3 : decode cX2_isRight 3 = .ok (.istore_n 3, 1) := by decide +kernel
theorem dX2_isRight_4 : decode cX2_isRight 4 = .ok (.iload_n 3, 1) := by decide +kernel
theorem dX2_isRight_5 : decode cX2_isRight 5 = .ok (.iconst 2, 1) := by decide +kernel
theorem dX2_isRight_6 : decode cX2_isRight 6 = .ok (.aload_n 0, 1) := by decide +kernel
theorem dX2_isRight_7 : decode cX2_isRight 7 = .ok (.getfield 29, 3) := by decide +kernel
theorem dX2_isRight_10 : decode cX2_isRight 10 = .ok (.imul, 1) := by decide +kernel
theorem dX2_isRight_11 : decode cX2_isRight 11 = .ok (.if_icmp .gt 41, 3) := by decide +kernel
theorem dX2_isRight_14 : decode cX2_isRight 14 = .ok (.aload_n 0, 1) := by decide +kernel
theorem dX2_isRight_15 : decode cX2_isRight 15 = .ok (.getfield 18, 3) := by decide +kernel
theorem dX2_isRight_18 : decode cX2_isRight 18 = .ok (.iload_n 3, 1) := by decide +kernel
theorem dX2_isRight_19 : decode cX2_isRight 19 = .ok (.aload_n 0, 1) := by decide +kernel
theorem dX2_isRight_20 : decode cX2_isRight 20 = .ok (.getfield 12, 3) := by decide +kernel
theorem dX2_isRight_23 : decode cX2_isRight 23 = .ok (.iload_n 1, 1) := by decide +kernel
theorem dX2_isRight_24 : decode cX2_isRight 24 = .ok (.iload_n 3, 1) := by decide +kernel
theorem dX2_isRight_25 : decode cX2_isRight 25 = .ok (.invokevirtual 40, 3) := by decide +kernel
theorem dX2_isRight_28 : decode cX2_isRight 28 = .ok (.iastore, 1) := by decide +kernel
theorem dX2_isRight_29 : decode cX2_isRight 29 = .ok (.iload_n 2, 1) := by decide +kernel
theorem dX2_isRight_30 : decode cX2_isRight 30 = .ok (.aload_n 0, 1) := by decide +kernel
theorem dX2_isRight_31 : decode cX2_isRight 31 = .ok (.getfield 18, 3) := by decide +kernel
theorem dX2_isRight_34 : decode cX2_isRight 34 = .ok (.iload_n 3, 1) := by decide +kernel
theorem dX2_isRight_35 : decode cX2_isRight 35 = .ok (.iaload, 1) := by decide +kernel
theorem dX2_isRight_36 : decode cX2_isRight 36 = .ok (.ifCond .ne 7, 3) := by decide +kernel
theorem dX2_isRight_39 : decode cX2_isRight 39 = .ok (.iconst 1, 1) := by decide +kernel
theorem dX2_isRight_40 : decode cX2_isRight 40 = .ok (.goto 4, 3) := by decide +kernel
theorem dX2_isRight_43 : decode cX2_isRight 43 = .ok (.iconst 0, 1) := by decide +kernel
theorem dX2_isRight_44 : decode cX2_isRight 44 = .ok (.iand, 1) := by decide +kernel
theorem dX2_isRight_45 : decode cX2_isRight 45 = .ok (.istore_n 2, 1) := by decide +kernel
theorem dX2_isRight_46 : decode cX2_isRight 46 = .ok (.iinc 3 1, 3) := by decide +kernel
theorem dX2_isRight_49 : decode cX2_isRight 49 = .ok (.goto (-45), 3) := by decide +kernel
theorem dX2_isRight_52 : decode cX2_isRight 52 = .ok (.iload_n 2, 1) := by decide +kernel
theorem dX2_isRight_53 : decode cX2_isRight 53 = .ok (.ireturn, 1) := by decide +kernel
