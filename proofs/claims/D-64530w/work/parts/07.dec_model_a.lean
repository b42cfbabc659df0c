set_option maxRecDepth 100000
theorem dX8_init_0 : decode cX8_init 0 = .ok (.aload_n 0, 1) := by decide +kernel
theorem dX8_init_1 : decode cX8_init 1 = .ok (.invokespecial 1, 3) := by decide +kernel
theorem dX8_init_4 : decode cX8_init 4 = .ok (.aload_n 0, 1) := by decide +kernel
theorem dX8_init_5 : decode cX8_init 5 = .ok (.iconst 4, 1) := by decide +kernel
theorem dX8_init_6 : decode cX8_init 6 = .ok (.newarray .int, 2) := by decide +kernel
theorem dX8_init_8 : decode cX8_init 8 = .ok (.putfield 7, 3) := by decide +kernel
theorem dX8_init_11 : decode cX8_init 11 = .ok (.aload_n 0, 1) := by decide +kernel
theorem dX8_init_12 : decode cX8_init 12 = .ok (.iconst 4, 1) := by decide +kernel
theorem dX8_init_13 : decode cX8_init 13 = .ok (.newarray .int, 2) := by decide +kernel
theorem dX8_init_15 : decode cX8_init 15 = .ok (.putfield 13, 3) := by decide +kernel
theorem dX8_init_18 : decode cX8_init 18 = .ok (.aload_n 0, 1) := by decide +kernel
theorem dX8_init_19 : decode cX8_init 19 = .ok (.bipush 16, 2) := by decide +kernel
theorem dX8_init_21 : decode cX8_init 21 = .ok (.newarray .int, 2) := by decide +kernel
theorem dX8_init_23 : decode cX8_init 23 = .ok (.putfield 16, 3) := by decide +kernel
theorem dX8_init_26 : decode cX8_init 26 = .ok (.aload_n 0, 1) := by decide +kernel
theorem dX8_init_27 : decode cX8_init 27 = .ok (.iconst 4, 1) := by decide +kernel
theorem dX8_init_28 : decode cX8_init 28 = .ok (.newarray .int, 2) := by decide +kernel
theorem dX8_init_30 : decode cX8_init 30 = .ok (.putfield 19, 3) := by decide +kernel
theorem dX8_init_33 : decode cX8_init 33 = .ok (.aload_n 0, 1) := by decide +kernel
theorem dX8_init_34 : decode cX8_init 34 = .ok (.bipush 31, 2) := by decide +kernel
theorem dX8_init_36 : decode cX8_init 36 = .ok (.newarray .int, 2) := by decide +kernel
theorem dX8_init_38 : decode cX8_init 38 = .ok (.putfield 22, 3) := by decide +kernel
theorem dX8_init_41 : decode cX8_init 41 = .ok (.aload_n 0, 1) := by decide +kernel
theorem dX8_init_42 : decode cX8_init 42 = .ok (.bipush 32, 2) := by decide +kernel
theorem dX8_init_44 : decode cX8_init 44 = .ok (.newarray .int, 2) := by decide +kernel
theorem dX8_init_46 : decode cX8_init 46 = .ok (.putfield 25, 3) := by decide +kernel
theorem dX8_init_49 : decode cX8_init 49 = .ok (.return_, 1) := by decide +kernel
theorem dX8_thrown_0 : decode cX8_thrown 0 = .ok (.aload_n 0, 1) := by decide +kernel
theorem dX8_thrown_1 : decode cX8_thrown 1 = .ok (.getfield 28, 3) := by decide +kernel
theorem dX8_thrown_4 : decode cX8_thrown 4 = .ok (.ireturn, 1) := by decide +kernel
theorem dX8_begin_0 : decode cX8_begin 0 = .ok (.iload_n 2, 1) := by decide +kernel
theorem dX8_begin_1 : decode cX8_begin 1 = .ok (.iconst 1, 1) := by decide +kernel
theorem dX8_begin_2 : decode cX8_begin 2 = .ok (.iconst 3, 1) := by decide +kernel
theorem dX8_begin_3 : decode cX8_begin 3 = .ok (.invokestatic 47, 3) := by decide +kernel
theorem dX8_begin_6 : decode cX8_begin 6 = .ok (.ifCond .eq 27, 3) := by decide +kernel
theorem dX8_begin_9 : decode cX8_begin 9 = .ok (.iload_n 3, 1) := by decide +kernel
theorem dX8_begin_10 : decode cX8_begin 10 = .ok (.iconst 1, 1) := by decide +kernel
theorem dX8_begin_11 : decode cX8_begin 11 = .ok (.iconst 4, 1) := by decide +kernel
theorem dX8_begin_12 : decode cX8_begin 12 = .ok (.invokestatic 47, 3) := by decide +kernel
theorem dX8_begin_15 : decode cX8_begin 15 = .ok (.ifCond .eq 18, 3) := by decide +kernel
theorem dX8_begin_18 : decode cX8_begin 18 = .ok (.iload_n 1, 1) := by decide +kernel
theorem dX8_begin_19 : decode cX8_begin 19 = .ok (.bipush 8, 2) := by decide +kernel
theorem dX8_begin_21 : decode cX8_begin 21 = .ok (.bipush 63, 2) := by decide +kernel
theorem dX8_begin_23 : decode cX8_begin 23 = .ok (.invokestatic 47, 3) := by decide +kernel
theorem dX8_begin_26 : decode cX8_begin 26 = .ok (.ifCond .eq 7, 3) := by decide +kernel
theorem dX8_begin_29 : decode cX8_begin 29 = .ok (.iconst 1, 1) := by decide +kernel
theorem dX8_begin_30 : decode cX8_begin 30 = .ok (.goto 4, 3) := by decide +kernel
theorem dX8_begin_33 : decode cX8_begin 33 = .ok (.iconst 0, 1) := by decide +kernel
theorem dX8_begin_34 : decode cX8_begin 34 = .ok (.istore 4, 2) := by decide +kernel
theorem dX8_begin_36 : decode cX8_begin 36 = .ok (.iload_n 1, 1) := by decide +kernel
theorem dX8_begin_37 : decode cX8_begin 37 = .ok (.bipush 31, 2) := by decide +kernel
theorem dX8_begin_39 : decode cX8_begin 39 = .ok (.if_icmp .le 7, 3) := by decide +kernel
theorem dX8_begin_42 : decode cX8_begin 42 = .ok (.iconst 5, 1) := by decide +kernel
theorem dX8_begin_43 : decode cX8_begin 43 = .ok (.goto 14, 3) := by decide +kernel
theorem dX8_begin_46 : decode cX8_begin 46 = .ok (.iload_n 1, 1) := by decide +kernel
theorem dX8_begin_47 : decode cX8_begin 47 = .ok (.bipush 15, 2) := by decide +kernel
theorem dX8_begin_49 : decode cX8_begin 49 = .ok (.if_icmp .le 7, 3) := by decide +kernel
theorem dX8_begin_52 : decode cX8_begin 52 = .ok (.iconst 4, 1) := by decide +kernel
theorem dX8_begin_53 : decode cX8_begin 53 = .ok (.goto 4, 3) := by decide +kernel
theorem dX8_begin_56 : decode cX8_begin 56 = .ok (.iconst 3, 1) := by decide +kernel
theorem dX8_begin_57 : decode cX8_begin 57 = .ok (.istore 5, 2) := by decide +kernel
theorem dX8_begin_59 : decode cX8_begin 59 = .ok (.aload_n 0, 1) := by decide +kernel
theorem dX8_begin_60 : decode cX8_begin 60 = .ok (.iload 4, 2) := by decide +kernel
theorem dX8_begin_62 : decode cX8_begin 62 = .ok (.ifCond .ne 7, 3) := by decide +kernel
theorem dX8_begin_65 : decode cX8_begin 65 = .ok (.iconst 1, 1) := by decide +kernel
theorem dX8_begin_66 : decode cX8_begin 66 = .ok (.goto 17, 3) := by decide +kernel
theorem dX8_begin_69 : decode cX8_begin 69 = .ok (.iload_n 1, 1) := by decide +kernel
theorem dX8_begin_70 : decode cX8_begin 70 = .ok (.iload 5, 2) := by decide +kernel
theorem dX8_begin_72 : decode cX8_begin 72 = .ok (.invokestatic 65, 3) := by decide +kernel
theorem dX8_begin_75 : decode cX8_begin 75 = .ok (.ifCond .eq 7, 3) := by decide +kernel
theorem dX8_begin_78 : decode cX8_begin 78 = .ok (.iconst 0, 1) := by decide +kernel
theorem dX8_begin_79 : decode cX8_begin 79 = .ok (.goto 4, 3) := by decide +kernel
theorem dX8_begin_82 : decode cX8_begin 82 = .ok (.iconst 2, 1) := by decide +kernel
theorem dX8_begin_83 : decode cX8_begin 83 = .ok (.putfield 28, 3) := by decide +kernel
theorem dX8_begin_86 : decode cX8_begin 86 = .ok (.aload_n 0, 1) := by decide +kernel
theorem dX8_begin_87 : decode cX8_begin 87 = .ok (.getfield 28, 3) := by decide +kernel
theorem dX8_begin_90 : decode cX8_begin 90 = .ok (.ifCond .le 5, 3) := by decide +kernel
theorem dX8_begin_93 : decode cX8_begin 93 = .ok (.iconst 0, 1) := by decide +kernel
theorem dX8_begin_94 : decode cX8_begin 94 = .ok (.ireturn, 1) := by decide +kernel
theorem dX8_begin_95 : decode cX8_begin 95 = .ok (.aload_n 0, 1) := by decide +kernel
theorem dX8_begin_96 : decode cX8_begin 96 = .ok (.iconst 1, 1) := by decide +kernel
theorem dX8_begin_97 : decode cX8_begin 97 = .ok (.putfield 69, 3) := by decide +kernel
theorem dX8_begin_100 : decode cX8_begin 100 = .ok (.aload_n 0, 1) := by decide +kernel
theorem dX8_begin_101 : decode cX8_begin 101 = .ok (.iload_n 1, 1) := by decide +kernel
theorem dX8_begin_102 : decode cX8_begin 102 = .ok (.putfield 35, 3) := by decide +kernel
theorem dX8_begin_105 : decode cX8_begin 105 = .ok (.aload_n 0, 1) := by decide +kernel
theorem dX8_begin_106 : decode cX8_begin 106 = .ok (.iload 5, 2) := by decide +kernel
theorem dX8_begin_108 : decode cX8_begin 108 = .ok (.putfield 38, 3) := by decide +kernel
theorem dX8_begin_111 : decode cX8_begin 111 = .ok (.aload_n 0, 1) := by decide +kernel
theorem dX8_begin_112 : decode cX8_begin 112 = .ok (.iconst 1, 1) := by decide +kernel
theorem dX8_begin_113 : decode cX8_begin 113 = .ok (.iload 5, 2) := by decide +kernel
theorem dX8_begin_115 : decode cX8_begin 115 = .ok (.ishl, 1) := by decide +kernel
theorem dX8_begin_116 : decode cX8_begin 116 = .ok (.iconst 1, 1) := by decide +kernel
theorem dX8_begin_117 : decode cX8_begin 117 = .ok (.isub, 1) := by decide +kernel
theorem dX8_begin_118 : decode cX8_begin 118 = .ok (.putfield 32, 3) := by decide +kernel
theorem dX8_begin_121 : decode cX8_begin 121 = .ok (.aload_n 0, 1) := by decide +kernel
theorem dX8_begin_122 : decode cX8_begin 122 = .ok (.iload_n 2, 1) := by decide +kernel
theorem dX8_begin_123 : decode cX8_begin 123 = .ok (.putfield 44, 3) := by decide +kernel
theorem dX8_begin_126 : decode cX8_begin 126 = .ok (.aload_n 0, 1) := by decide +kernel
theorem dX8_begin_127 : decode cX8_begin 127 = .ok (.iload_n 3, 1) := by decide +kernel
theorem dX8_begin_128 : decode cX8_begin 128 = .ok (.putfield 73, 3) := by decide +kernel
theorem dX8_begin_131 : decode cX8_begin 131 = .ok (.aload_n 0, 1) := by decide +kernel
theorem dX8_begin_132 : decode cX8_begin 132 = .ok (.invokevirtual 76, 3) := by decide +kernel
theorem dX8_begin_135 : decode cX8_begin 135 = .ok (.iconst 0, 1) := by decide +kernel
theorem dX8_begin_136 : decode cX8_begin 136 = .ok (.istore 6, 2) := by decide +kernel
theorem dX8_begin_138 : decode cX8_begin 138 = .ok (.iload 6, 2) := by decide +kernel
theorem dX8_begin_140 : decode cX8_begin 140 = .ok (.bipush 16, 2) := by decide +kernel
theorem dX8_begin_142 : decode cX8_begin 142 = .ok (.if_icmp .ge 37, 3) := by decide +kernel
theorem dX8_begin_145 : decode cX8_begin 145 = .ok (.aload_n 0, 1) := by decide +kernel
theorem dX8_begin_146 : decode cX8_begin 146 = .ok (.getfield 16, 3) := by decide +kernel
theorem dX8_begin_149 : decode cX8_begin 149 = .ok (.iload 6, 2) := by decide +kernel
theorem dX8_begin_151 : decode cX8_begin 151 = .ok (.iconst 0, 1) := by decide +kernel
theorem dX8_begin_152 : decode cX8_begin 152 = .ok (.iastore, 1) := by decide +kernel
theorem dX8_begin_153 : decode cX8_begin 153 = .ok (.aload_n 0, 1) := by decide +kernel
theorem dX8_begin_154 : decode cX8_begin 154 = .ok (.getfield 7, 3) := by decide +kernel
theorem dX8_begin_157 : decode cX8_begin 157 = .ok (.iload 6, 2) := by decide +kernel
theorem dX8_begin_159 : decode cX8_begin 159 = .ok (.iconst 4, 1) := by decide +kernel
theorem dX8_begin_160 : decode cX8_begin 160 = .ok (.irem, 1) := by decide +kernel
theorem dX8_begin_161 : decode cX8_begin 161 = .ok (.iconst 0, 1) := by decide +kernel
theorem dX8_begin_162 : decode cX8_begin 162 = .ok (.iastore, 1) := by decide +kernel
theorem dX8_begin_163 : decode cX8_begin 163 = .ok (.aload_n 0, 1) := by decide +kernel
theorem dX8_begin_164 : decode cX8_begin 164 = .ok (.getfield 13, 3) := by decide +kernel
theorem dX8_begin_167 : decode cX8_begin 167 = .ok (.iload 6, 2) := by decide +kernel
theorem dX8_begin_169 : decode cX8_begin 169 = .ok (.iconst 4, 1) := by decide +kernel
theorem dX8_begin_170 : decode cX8_begin 170 = .ok (.irem, 1) := by decide +kernel
theorem dX8_begin_171 : decode cX8_begin 171 = .ok (.iconst 0, 1) := by decide +kernel
theorem dX8_begin_172 : decode cX8_begin 172 = .ok (.iastore, 1) := by decide +kernel
theorem dX8_begin_173 : decode cX8_begin 173 = .ok (.iinc 6 1, 3) := by decide +kernel
theorem dX8_begin_176 : decode cX8_begin 176 = .ok (.goto (-38), 3) := by decide +kernel
theorem dX8_begin_179 : decode cX8_begin 179 = .ok (.aload_n 0, 1) := by decide +kernel
theorem dX8_begin_180 : decode cX8_begin 180 = .ok (.getfield 32, 3) := by decide +kernel
theorem dX8_begin_183 : decode cX8_begin 183 = .ok (.aload_n 0, 1) := by decide +kernel
theorem dX8_begin_184 : decode cX8_begin 184 = .ok (.getfield 51, 3) := by decide +kernel
theorem dX8_begin_187 : decode cX8_begin 187 = .ok (.isub, 1) := by decide +kernel
theorem dX8_begin_188 : decode cX8_begin 188 = .ok (.ireturn, 1) := by decide +kernel
theorem dX8_within_0 : decode cX8_within 0 = .ok (.iload_n 0, 1) := by decide +kernel
theorem dX8_within_1 : decode cX8_within 1 = .ok (.iload_n 1, 1) := by decide +kernel
theorem dX8_within_2 : decode cX8_within 2 = .ok (.if_icmp .lt 12, 3) := by decide +kernel
theorem dX8_within_5 : decode cX8_within 5 = .ok (.iload_n 0, 1) := by decide +kernel
theorem dX8_within_6 : decode cX8_within 6 = .ok (.iload_n 2, 1) := by decide +kernel
theorem dX8_within_7 : decode cX8_within 7 = .ok (.if_icmp .gt 7, 3) := by decide +kernel
theorem dX8_within_10 : decode cX8_within 10 = .ok (.iconst 1, 1) := by decide +kernel
theorem dX8_within_11 : decode cX8_within 11 = .ok (.goto 4, 3) := by decide +kernel
theorem dX8_within_14 : decode cX8_within 14 = .ok (.iconst 0, 1) := by decide +kernel
theorem dX8_within_15 : decode cX8_within 15 = .ok (.ireturn, 1) := by decide +kernel
theorem dX8_isPrimitive_0 : decode cX8_isPrimitive 0 = .ok (.iconst 1, 1) := by decide +kernel
theorem dX8_isPrimitive_1 : decode cX8_isPrimitive 1 = .ok (.istore_n 2, 1) := by decide +kernel
theorem dX8_isPrimitive_2 : decode cX8_isPrimitive 2 = .ok (.iconst 1, 1) := by decide +kernel
theorem dX8_isPrimitive_3 : decode cX8_isPrimitive 3 = .ok (.istore_n 3, 1) := by decide +kernel
theorem dX8_isPrimitive_4 : decode cX8_isPrimitive 4 = .ok (.iload_n 3, 1) := by decide +kernel
theorem dX8_isPrimitive_5 : decode cX8_isPrimitive 5 = .ok (.iconst 1, 1) := by decide +kernel
theorem dX8_isPrimitive_6 : decode cX8_isPrimitive 6 = .ok (.iload_n 1, 1) := by decide +kernel
theorem dX8_isPrimitive_7 : decode cX8_isPrimitive 7 = .ok (.ishl, 1) := by decide +kernel
theorem dX8_isPrimitive_8 : decode cX8_isPrimitive 8 = .ok (.if_icmp .ge 37, 3) := by decide +kernel
theorem dX8_isPrimitive_11 : decode cX8_isPrimitive 11 = .ok (.iload_n 2, 1) := by decide +kernel
theorem dX8_isPrimitive_12 : decode cX8_isPrimitive 12 = .ok (.iconst 2, 1) := by decide +kernel
theorem dX8_isPrimitive_13 : decode cX8_isPrimitive 13 = .ok (.iload_n 0, 1) := by decide +kernel
theorem dX8_isPrimitive_14 : decode cX8_isPrimitive 14 = .ok (.iload_n 1, 1) := by decide +kernel
theorem dX8_isPrimitive_15 : decode cX8_isPrimitive 15 = .ok (.invokestatic 41, 3) := by decide +kernel
theorem dX8_isPrimitive_18 : decode cX8_isPrimitive 18 = .ok (.istore_n 2, 1) := by decide +kernel
theorem dX8_isPrimitive_19 : decode cX8_isPrimitive 19 = .ok (.iload_n 2, 1) := by decide +kernel
theorem dX8_isPrimitive_20 : decode cX8_isPrimitive 20 = .ok (.iconst 1, 1) := by decide +kernel
theorem dX8_isPrimitive_21 : decode cX8_isPrimitive 21 = .ok (.if_icmp .ne 18, 3) := by decide +kernel
theorem dX8_isPrimitive_24 : decode cX8_isPrimitive 24 = .ok (.iload_n 3, 1) := by decide +kernel
theorem dX8_isPrimitive_25 : decode cX8_isPrimitive 25 = .ok (.iconst 1, 1) := by decide +kernel
theorem dX8_isPrimitive_26 : decode cX8_isPrimitive 26 = .ok (.iload_n 1, 1) := by decide +kernel
theorem dX8_isPrimitive_27 : decode cX8_isPrimitive 27 = .ok (.ishl, 1) := by decide +kernel
theorem dX8_isPrimitive_28 : decode cX8_isPrimitive 28 = .ok (.iconst 1, 1) := by decide +kernel
theorem dX8_isPrimitive_29 : decode cX8_isPrimitive 29 = .ok (.isub, 1) := by decide +kernel
theorem dX8_isPrimitive_30 : decode cX8_isPrimitive 30 = .ok (.if_icmp .ne 7, 3) := by decide +kernel
theorem dX8_isPrimitive_33 : decode cX8_isPrimitive 33 = .ok (.iconst 1, 1) := by decide +kernel
theorem dX8_isPrimitive_34 : decode cX8_isPrimitive 34 = .ok (.goto 4, 3) := by decide +kernel
theorem dX8_isPrimitive_37 : decode cX8_isPrimitive 37 = .ok (.iconst 0, 1) := by decide +kernel
theorem dX8_isPrimitive_38 : decode cX8_isPrimitive 38 = .ok (.ireturn, 1) := by decide +kernel
theorem dX8_isPrimitive_39 : decode cX8_isPrimitive 39 = .ok (.iinc 3 1, 3) := by decide +kernel
theorem dX8_isPrimitive_42 : decode cX8_isPrimitive 42 = .ok (.goto (-38), 3) := by decide +kernel
theorem dX8_isPrimitive_45 : decode cX8_isPrimitive 45 = .ok (.iconst 0, 1) := by decide +kernel
theorem dX8_isPrimitive_46 : decode cX8_isPrimitive 46 = .ok (.ireturn, 1) := by decide +kernel
theorem dX8_product_0 : decode cX8_product 0 = .ok (.iconst 0, 1) := by decide +kernel
theorem dX8_product_1 : decode cX8_product 1 = .ok (.istore 4, 2) := by decide +kernel
theorem dX8_product_3 : decode cX8_product 3 = .ok (.iload_n 0, 1) := by decide +kernel
theorem dX8_product_4 : decode cX8_product 4 = .ok (.istore 5, 2) := by decide +kernel
theorem dX8_product_6 : decode cX8_product 6 = .ok (.iconst 0, 1) := by decide +kernel
theorem dX8_product_7 : decode cX8_product 7 = .ok (.istore 6, 2) := by decide +kernel
theorem dX8_product_9 : decode cX8_product 9 = .ok (.iload 6, 2) := by decide +kernel
theorem dX8_product_11 : decode cX8_product 11 = .ok (.iload_n 3, 1) := by decide +kernel
theorem dX8_product_12 : decode cX8_product 12 = .ok (.if_icmp .ge 58, 3) := by decide +kernel
theorem dX8_product_15 : decode cX8_product 15 = .ok (.iload_n 1, 1) := by decide +kernel
theorem dX8_product_16 : decode cX8_product 16 = .ok (.iload 6, 2) := by decide +kernel
theorem dX8_product_18 : decode cX8_product 18 = .ok (.ishr, 1) := by decide +kernel
theorem dX8_product_19 : decode cX8_product 19 = .ok (.iconst 1, 1) := by decide +kernel
theorem dX8_product_20 : decode cX8_product 20 = .ok (.iand, 1) := by decide +kernel
theorem dX8_product_21 : decode cX8_product 21 = .ok (.iconst 1, 1) := by decide +kernel
theorem dX8_product_22 : decode cX8_product 22 = .ok (.if_icmp .ne 11, 3) := by decide +kernel
theorem dX8_product_25 : decode cX8_product 25 = .ok (.iload 4, 2) := by decide +kernel
theorem dX8_product_27 : decode cX8_product 27 = .ok (.iload 5, 2) := by decide +kernel
theorem dX8_product_29 : decode cX8_product 29 = .ok (.ixor, 1) := by decide +kernel
theorem dX8_product_30 : decode cX8_product 30 = .ok (.goto 5, 3) := by decide +kernel
theorem dX8_product_33 : decode cX8_product 33 = .ok (.iload 4, 2) := by decide +kernel
theorem dX8_product_35 : decode cX8_product 35 = .ok (.istore 4, 2) := by decide +kernel
theorem dX8_product_37 : decode cX8_product 37 = .ok (.iload 5, 2) := by decide +kernel
theorem dX8_product_39 : decode cX8_product 39 = .ok (.iconst 1, 1) := by decide +kernel
theorem dX8_product_40 : decode cX8_product 40 = .ok (.ishl, 1) := by decide +kernel
theorem dX8_product_41 : decode cX8_product 41 = .ok (.istore 5, 2) := by decide +kernel
theorem dX8_product_43 : decode cX8_product 43 = .ok (.iload 5, 2) := by decide +kernel
theorem dX8_product_45 : decode cX8_product 45 = .ok (.iload_n 3, 1) := by decide +kernel
theorem dX8_product_46 : decode cX8_product 46 = .ok (.ishr, 1) := by decide +kernel
theorem dX8_product_47 : decode cX8_product 47 = .ok (.iconst 1, 1) := by decide +kernel
theorem dX8_product_48 : decode cX8_product 48 = .ok (.iand, 1) := by decide +kernel
theorem dX8_product_49 : decode cX8_product 49 = .ok (.iconst 1, 1) := by decide +kernel
theorem dX8_product_50 : decode cX8_product 50 = .ok (.if_icmp .ne 10, 3) := by decide +kernel
theorem dX8_product_53 : decode cX8_product 53 = .ok (.iload 5, 2) := by decide +kernel
theorem dX8_product_55 : decode cX8_product 55 = .ok (.iload_n 2, 1) := by decide +kernel
theorem dX8_product_56 : decode cX8_product 56 = .ok (.ixor, 1) := by decide +kernel
theorem dX8_product_57 : decode cX8_product 57 = .ok (.goto 5, 3) := by decide +kernel
theorem dX8_product_60 : decode cX8_product 60 = .ok (.iload 5, 2) := by decide +kernel
theorem dX8_product_62 : decode cX8_product 62 = .ok (.istore 5, 2) := by decide +kernel
theorem dX8_product_64 : decode cX8_product 64 = .ok (.iinc 6 1, 3) := by decide +kernel
theorem dX8_product_67 : decode cX8_product 67 = .ok (.goto (-58), 3) := by decide +kernel
theorem dX8_product_70 : decode cX8_product 70 = .ok (.iload 4, 2) := by decide +kernel
theorem dX8_product_72 : decode cX8_product 72 = .ok (.ireturn, 1) := by decide +kernel
theorem dX8_makeGenerator_0 : decode cX8_makeGenerator 0 = .ok (.iconst 0, 1) := by decide +kernel
theorem dX8_makeGenerator_1 : decode cX8_makeGenerator 1 = .ok (.istore_n 1, 1) := by decide +kernel
theorem dX8_makeGenerator_2 : decode cX8_makeGenerator 2 = .ok (.iload_n 1, 1) := by decide +kernel
theorem dX8_makeGenerator_3 : decode cX8_makeGenerator 3 = .ok (.bipush 32, 2) := by decide +kernel
theorem dX8_makeGenerator_5 : decode cX8_makeGenerator 5 = .ok (.if_icmp .ge 24, 3) := by decide +kernel
theorem dX8_makeGenerator_8 : decode cX8_makeGenerator 8 = .ok (.aload_n 0, 1) := by decide +kernel
theorem dX8_makeGenerator_9 : decode cX8_makeGenerator 9 = .ok (.getfield 25, 3) := by decide +kernel
theorem dX8_makeGenerator_12 : decode cX8_makeGenerator 12 = .ok (.iload_n 1, 1) := by decide +kernel
theorem dX8_makeGenerator_13 : decode cX8_makeGenerator 13 = .ok (.iload_n 1, 1) := by decide +kernel
theorem dX8_makeGenerator_14 : decode cX8_makeGenerator 14 = .ok (.ifCond .ne 7, 3) := by decide +kernel
theorem dX8_makeGenerator_17 : decode cX8_makeGenerator 17 = .ok (.iconst 1, 1) := by decide +kernel
theorem dX8_makeGenerator_18 : decode cX8_makeGenerator 18 = .ok (.goto 4, 3) := by decide +kernel
theorem dX8_makeGenerator_21 : decode cX8_makeGenerator 21 = .ok (.iconst 0, 1) := by decide +kernel
theorem dX8_makeGenerator_22 : decode cX8_makeGenerator 22 = .ok (.iastore, 1) := by decide +kernel
theorem dX8_makeGenerator_23 : decode cX8_makeGenerator 23 = .ok (.iinc 1 1, 3) := by decide +kernel
theorem dX8_makeGenerator_26 : decode cX8_makeGenerator 26 = .ok (.goto (-24), 3) := by decide +kernel
theorem dX8_makeGenerator_29 : decode cX8_makeGenerator 29 = .ok (.aload_n 0, 1) := by decide +kernel
theorem dX8_makeGenerator_30 : decode cX8_makeGenerator 30 = .ok (.iconst 0, 1) := by decide +kernel
theorem dX8_makeGenerator_31 : decode cX8_makeGenerator 31 = .ok (.putfield 51, 3) := by decide +kernel
theorem dX8_makeGenerator_34 : decode cX8_makeGenerator 34 = .ok (.iconst 1, 1) := by decide +kernel
theorem dX8_makeGenerator_35 : decode cX8_makeGenerator 35 = .ok (.istore_n 1, 1) := by decide +kernel
theorem dX8_makeGenerator_36 : decode cX8_makeGenerator 36 = .ok (.iload_n 1, 1) := by decide +kernel
theorem dX8_makeGenerator_37 : decode cX8_makeGenerator 37 = .ok (.aload_n 0, 1) := by decide +kernel
theorem dX8_makeGenerator_38 : decode cX8_makeGenerator 38 = .ok (.getfield 32, 3) := by decide +kernel
theorem dX8_makeGenerator_41 : decode cX8_makeGenerator 41 = .ok (.if_icmp .gt 109, 3) := by decide +kernel
theorem dX8_makeGenerator_44 : decode cX8_makeGenerator 44 = .ok (.aload_n 0, 1) := by decide +kernel
theorem dX8_makeGenerator_45 : decode cX8_makeGenerator 45 = .ok (.iload_n 1, 1) := by decide +kernel
theorem dX8_makeGenerator_46 : decode cX8_makeGenerator 46 = .ok (.aload_n 0, 1) := by decide +kernel
theorem dX8_makeGenerator_47 : decode cX8_makeGenerator 47 = .ok (.getfield 32, 3) := by decide +kernel
theorem dX8_makeGenerator_50 : decode cX8_makeGenerator 50 = .ok (.irem, 1) := by decide +kernel
theorem dX8_makeGenerator_51 : decode cX8_makeGenerator 51 = .ok (.ifCond .ne 10, 3) := by decide +kernel
theorem dX8_makeGenerator_54 : decode cX8_makeGenerator 54 = .ok (.aload_n 0, 1) := by decide +kernel
theorem dX8_makeGenerator_55 : decode cX8_makeGenerator 55 = .ok (.getfield 32, 3) := by decide +kernel
theorem dX8_makeGenerator_58 : decode cX8_makeGenerator 58 = .ok (.goto 4, 3) := by decide +kernel
theorem dX8_makeGenerator_61 : decode cX8_makeGenerator 61 = .ok (.iload_n 1, 1) := by decide +kernel
theorem dX8_makeGenerator_62 : decode cX8_makeGenerator 62 = .ok (.invokevirtual 54, 3) := by decide +kernel
theorem dX8_makeGenerator_65 : decode cX8_makeGenerator 65 = .ok (.ifCond .eq 79, 3) := by decide +kernel
theorem dX8_makeGenerator_68 : decode cX8_makeGenerator 68 = .ok (.aload_n 0, 1) := by decide +kernel
theorem dX8_makeGenerator_69 : decode cX8_makeGenerator 69 = .ok (.iload_n 1, 1) := by decide +kernel
theorem dX8_makeGenerator_70 : decode cX8_makeGenerator 70 = .ok (.invokevirtual 58, 3) := by decide +kernel
theorem dX8_makeGenerator_73 : decode cX8_makeGenerator 73 = .ok (.istore_n 2, 1) := by decide +kernel
theorem dX8_makeGenerator_74 : decode cX8_makeGenerator 74 = .ok (.aload_n 0, 1) := by decide +kernel
theorem dX8_makeGenerator_75 : decode cX8_makeGenerator 75 = .ok (.dup, 1) := by decide +kernel
theorem dX8_makeGenerator_76 : decode cX8_makeGenerator 76 = .ok (.getfield 51, 3) := by decide +kernel
theorem dX8_makeGenerator_79 : decode cX8_makeGenerator 79 = .ok (.iconst 1, 1) := by decide +kernel
theorem dX8_makeGenerator_80 : decode cX8_makeGenerator 80 = .ok (.iadd, 1) := by decide +kernel
theorem dX8_makeGenerator_81 : decode cX8_makeGenerator 81 = .ok (.putfield 51, 3) := by decide +kernel
theorem dX8_makeGenerator_84 : decode cX8_makeGenerator 84 = .ok (.aload_n 0, 1) := by decide +kernel
theorem dX8_makeGenerator_85 : decode cX8_makeGenerator 85 = .ok (.getfield 51, 3) := by decide +kernel
theorem dX8_makeGenerator_88 : decode cX8_makeGenerator 88 = .ok (.istore_n 3, 1) := by decide +kernel
theorem dX8_makeGenerator_89 : decode cX8_makeGenerator 89 = .ok (.iload_n 3, 1) := by decide +kernel
theorem dX8_makeGenerator_90 : decode cX8_makeGenerator 90 = .ok (.ifCond .lt 54, 3) := by decide +kernel
theorem dX8_makeGenerator_93 : decode cX8_makeGenerator 93 = .ok (.iload_n 3, 1) := by decide +kernel
theorem dX8_makeGenerator_94 : decode cX8_makeGenerator 94 = .ok (.ifCond .le 14, 3) := by decide +kernel
theorem dX8_makeGenerator_97 : decode cX8_makeGenerator 97 = .ok (.aload_n 0, 1) := by decide +kernel
theorem dX8_makeGenerator_98 : decode cX8_makeGenerator 98 = .ok (.getfield 25, 3) := by decide +kernel
theorem dX8_makeGenerator_101 : decode cX8_makeGenerator 101 = .ok (.iload_n 3, 1) := by decide +kernel
theorem dX8_makeGenerator_102 : decode cX8_makeGenerator 102 = .ok (.iconst 1, 1) := by decide +kernel
theorem dX8_makeGenerator_103 : decode cX8_makeGenerator 103 = .ok (.isub, 1) := by decide +kernel
theorem dX8_makeGenerator_104 : decode cX8_makeGenerator 104 = .ok (.iaload, 1) := by decide +kernel
theorem dX8_makeGenerator_105 : decode cX8_makeGenerator 105 = .ok (.goto 4, 3) := by decide +kernel
theorem dX8_makeGenerator_108 : decode cX8_makeGenerator 108 = .ok (.iconst 0, 1) := by decide +kernel
theorem dX8_makeGenerator_109 : decode cX8_makeGenerator 109 = .ok (.istore 4, 2) := by decide +kernel
theorem dX8_makeGenerator_111 : decode cX8_makeGenerator 111 = .ok (.aload_n 0, 1) := by decide +kernel
theorem dX8_makeGenerator_112 : decode cX8_makeGenerator 112 = .ok (.getfield 25, 3) := by decide +kernel
theorem dX8_makeGenerator_115 : decode cX8_makeGenerator 115 = .ok (.iload_n 3, 1) := by decide +kernel
theorem dX8_makeGenerator_116 : decode cX8_makeGenerator 116 = .ok (.iload 4, 2) := by decide +kernel
theorem dX8_makeGenerator_118 : decode cX8_makeGenerator 118 = .ok (.aload_n 0, 1) := by decide +kernel
theorem dX8_makeGenerator_119 : decode cX8_makeGenerator 119 = .ok (.getfield 25, 3) := by decide +kernel
theorem dX8_makeGenerator_122 : decode cX8_makeGenerator 122 = .ok (.iload_n 3, 1) := by decide +kernel
theorem dX8_makeGenerator_123 : decode cX8_makeGenerator 123 = .ok (.iaload, 1) := by decide +kernel
theorem dX8_makeGenerator_124 : decode cX8_makeGenerator 124 = .ok (.iload_n 2, 1) := by decide +kernel
theorem dX8_makeGenerator_125 : decode cX8_makeGenerator 125 = .ok (.aload_n 0, 1) := by decide +kernel
theorem dX8_makeGenerator_126 : decode cX8_makeGenerator 126 = .ok (.getfield 35, 3) := by decide +kernel
theorem dX8_makeGenerator_129 : decode cX8_makeGenerator 129 = .ok (.aload_n 0, 1) := by decide +kernel
theorem dX8_makeGenerator_130 : decode cX8_makeGenerator 130 = .ok (.getfield 38, 3) := by decide +kernel
theorem dX8_makeGenerator_133 : decode cX8_makeGenerator 133 = .ok (.invokestatic 41, 3) := by decide +kernel
theorem dX8_makeGenerator_136 : decode cX8_makeGenerator 136 = .ok (.ixor, 1) := by decide +kernel
theorem dX8_makeGenerator_137 : decode cX8_makeGenerator 137 = .ok (.iastore, 1) := by decide +kernel
theorem dX8_makeGenerator_138 : decode cX8_makeGenerator 138 = .ok (.iinc 3 (-1), 3) := by decide +kernel
theorem dX8_makeGenerator_141 : decode cX8_makeGenerator 141 = .ok (.goto (-52), 3) := by decide +kernel
theorem dX8_makeGenerator_144 : decode cX8_makeGenerator 144 = .ok (.iinc 1 1, 3) := by decide +kernel
theorem dX8_makeGenerator_147 : decode cX8_makeGenerator 147 = .ok (.goto (-111), 3) := by decide +kernel
theorem dX8_makeGenerator_150 : decode cX8_makeGenerator 150 = .ok (.aload_n 0, 1) := by decide +kernel
theorem dX8_makeGenerator_151 : decode cX8_makeGenerator 151 = .ok (.iconst 0, 1) := by decide +kernel
theorem dX8_makeGenerator_152 : decode cX8_makeGenerator 152 = .ok (.putfield 62, 3) := by decide +kernel
theorem dX8_makeGenerator_155 : decode cX8_makeGenerator 155 = .ok (.iconst 0, 1) := by decide +kernel
theorem dX8_makeGenerator_156 : decode cX8_makeGenerator 156 = .ok (.istore_n 1, 1) := by decide +kernel
theorem dX8_makeGenerator_157 : decode cX8_makeGenerator 157 = .ok (.iload_n 1, 1) := by decide +kernel
theorem dX8_makeGenerator_158 : decode cX8_makeGenerator 158 = .ok (.aload_n 0, 1) := by decide +kernel
theorem dX8_makeGenerator_159 : decode cX8_makeGenerator 159 = .ok (.getfield 51, 3) := by decide +kernel
theorem dX8_makeGenerator_162 : decode cX8_makeGenerator 162 = .ok (.if_icmp .gt 26, 3) := by decide +kernel
theorem dX8_makeGenerator_165 : decode cX8_makeGenerator 165 = .ok (.aload_n 0, 1) := by decide +kernel
theorem dX8_makeGenerator_166 : decode cX8_makeGenerator 166 = .ok (.aload_n 0, 1) := by decide +kernel
theorem dX8_makeGenerator_167 : decode cX8_makeGenerator 167 = .ok (.getfield 62, 3) := by decide +kernel
theorem dX8_makeGenerator_170 : decode cX8_makeGenerator 170 = .ok (.aload_n 0, 1) := by decide +kernel
theorem dX8_makeGenerator_171 : decode cX8_makeGenerator 171 = .ok (.getfield 25, 3) := by decide +kernel
theorem dX8_makeGenerator_174 : decode cX8_makeGenerator 174 = .ok (.iload_n 1, 1) := by decide +kernel
theorem dX8_makeGenerator_175 : decode cX8_makeGenerator 175 = .ok (.iaload, 1) := by decide +kernel
theorem dX8_makeGenerator_176 : decode cX8_makeGenerator 176 = .ok (.iload_n 1, 1) := by decide +kernel
theorem dX8_makeGenerator_177 : decode cX8_makeGenerator 177 = .ok (.ishl, 1) := by decide +kernel
theorem dX8_makeGenerator_178 : decode cX8_makeGenerator 178 = .ok (.ior, 1) := by decide +kernel
theorem dX8_makeGenerator_179 : decode cX8_makeGenerator 179 = .ok (.putfield 62, 3) := by decide +kernel
theorem dX8_makeGenerator_182 : decode cX8_makeGenerator 182 = .ok (.iinc 1 1, 3) := by decide +kernel
theorem dX8_makeGenerator_185 : decode cX8_makeGenerator 185 = .ok (.goto (-28), 3) := by decide +kernel
theorem dX8_makeGenerator_188 : decode cX8_makeGenerator 188 = .ok (.iconst 1, 1) := by decide +kernel
theorem dX8_makeGenerator_189 : decode cX8_makeGenerator 189 = .ok (.istore_n 1, 1) := by decide +kernel
theorem dX8_makeGenerator_190 : decode cX8_makeGenerator 190 = .ok (.iconst 0, 1) := by decide +kernel
theorem dX8_makeGenerator_191 : decode cX8_makeGenerator 191 = .ok (.istore_n 2, 1) := by decide +kernel
theorem dX8_makeGenerator_192 : decode cX8_makeGenerator 192 = .ok (.iload_n 2, 1) := by decide +kernel
theorem dX8_makeGenerator_193 : decode cX8_makeGenerator 193 = .ok (.aload_n 0, 1) := by decide +kernel
theorem dX8_makeGenerator_194 : decode cX8_makeGenerator 194 = .ok (.getfield 32, 3) := by decide +kernel
theorem dX8_makeGenerator_197 : decode cX8_makeGenerator 197 = .ok (.if_icmp .ge 43, 3) := by decide +kernel
theorem dX8_makeGenerator_200 : decode cX8_makeGenerator 200 = .ok (.iload_n 1, 1) := by decide +kernel
theorem dX8_makeGenerator_201 : decode cX8_makeGenerator 201 = .ok (.aload_n 0, 1) := by decide +kernel
theorem dX8_makeGenerator_202 : decode cX8_makeGenerator 202 = .ok (.getfield 51, 3) := by decide +kernel
theorem dX8_makeGenerator_205 : decode cX8_makeGenerator 205 = .ok (.ishr, 1) := by decide +kernel
theorem dX8_makeGenerator_206 : decode cX8_makeGenerator 206 = .ok (.iconst 1, 1) := by decide +kernel
theorem dX8_makeGenerator_207 : decode cX8_makeGenerator 207 = .ok (.iand, 1) := by decide +kernel
theorem dX8_makeGenerator_208 : decode cX8_makeGenerator 208 = .ok (.iconst 1, 1) := by decide +kernel
theorem dX8_makeGenerator_209 : decode cX8_makeGenerator 209 = .ok (.if_icmp .ne 12, 3) := by decide +kernel
theorem dX8_makeGenerator_212 : decode cX8_makeGenerator 212 = .ok (.iload_n 1, 1) := by decide +kernel
theorem dX8_makeGenerator_213 : decode cX8_makeGenerator 213 = .ok (.aload_n 0, 1) := by decide +kernel
theorem dX8_makeGenerator_214 : decode cX8_makeGenerator 214 = .ok (.getfield 62, 3) := by decide +kernel
theorem dX8_makeGenerator_217 : decode cX8_makeGenerator 217 = .ok (.ixor, 1) := by decide +kernel
theorem dX8_makeGenerator_218 : decode cX8_makeGenerator 218 = .ok (.goto 4, 3) := by decide +kernel
theorem dX8_makeGenerator_221 : decode cX8_makeGenerator 221 = .ok (.iload_n 1, 1) := by decide +kernel
theorem dX8_makeGenerator_222 : decode cX8_makeGenerator 222 = .ok (.istore_n 1, 1) := by decide +kernel
theorem dX8_makeGenerator_223 : decode cX8_makeGenerator 223 = .ok (.aload_n 0, 1) := by decide +kernel
theorem dX8_makeGenerator_224 : decode cX8_makeGenerator 224 = .ok (.getfield 22, 3) := by decide +kernel
theorem dX8_makeGenerator_227 : decode cX8_makeGenerator 227 = .ok (.iload_n 2, 1) := by decide +kernel
theorem dX8_makeGenerator_228 : decode cX8_makeGenerator 228 = .ok (.iload_n 1, 1) := by decide +kernel
theorem dX8_makeGenerator_229 : decode cX8_makeGenerator 229 = .ok (.iastore, 1) := by decide +kernel
theorem dX8_makeGenerator_230 : decode cX8_makeGenerator 230 = .ok (.iload_n 1, 1) := by decide +kernel
theorem dX8_makeGenerator_231 : decode cX8_makeGenerator 231 = .ok (.iconst 1, 1) := by decide +kernel
theorem dX8_makeGenerator_232 : decode cX8_makeGenerator 232 = .ok (.ishl, 1) := by decide +kernel
theorem dX8_makeGenerator_233 : decode cX8_makeGenerator 233 = .ok (.istore_n 1, 1) := by decide +kernel
theorem dX8_makeGenerator_234 : decode cX8_makeGenerator 234 = .ok (.iinc 2 1, 3) := by decide +kernel
theorem dX8_makeGenerator_237 : decode cX8_makeGenerator 237 = .ok (.goto (-45), 3) := by decide +kernel
theorem dX8_makeGenerator_240 : decode cX8_makeGenerator 240 = .ok (.return_, 1) := by decide +kernel
theorem dX8_isZero_0 : decode cX8_isZero 0 = .ok (.iload_n 1, 1) := by decide +kernel
theorem dX8_isZero_1 : decode cX8_isZero 1 = .ok (.istore_n 2, 1) := by decide +kernel
theorem dX8_isZero_2 : decode cX8_isZero 2 = .ok (.iconst 0, 1) := by decide +kernel
theorem dX8_isZero_3 : decode cX8_isZero 3 = .ok (.istore_n 3, 1) := by decide +kernel
theorem dX8_isZero_4 : decode cX8_isZero 4 = .ok (.iconst 0, 1) := by decide +kernel
theorem dX8_isZero_5 : decode cX8_isZero 5 = .ok (.istore 4, 2) := by decide +kernel
theorem dX8_isZero_7 : decode cX8_isZero 7 = .ok (.iload 4, 2) := by decide +kernel
theorem dX8_isZero_9 : decode cX8_isZero 9 = .ok (.aload_n 0, 1) := by decide +kernel
theorem dX8_isZero_10 : decode cX8_isZero 10 = .ok (.getfield 38, 3) := by decide +kernel
theorem dX8_isZero_13 : decode cX8_isZero 13 = .ok (.if_icmp .ge 42, 3) := by decide +kernel
theorem dX8_isZero_16 : decode cX8_isZero 16 = .ok (.iload_n 3, 1) := by decide +kernel
theorem dX8_isZero_17 : decode cX8_isZero 17 = .ok (.ifCond .ne 17, 3) := by decide +kernel
theorem dX8_isZero_20 : decode cX8_isZero 20 = .ok (.iload_n 2, 1) := by decide +kernel
theorem dX8_isZero_21 : decode cX8_isZero 21 = .ok (.iconst 1, 1) := by decide +kernel
theorem dX8_isZero_22 : decode cX8_isZero 22 = .ok (.iconst 2, 1) := by decide +kernel
theorem dX8_isZero_23 : decode cX8_isZero 23 = .ok (.aload_n 0, 1) := by decide +kernel
theorem dX8_isZero_24 : decode cX8_isZero 24 = .ok (.getfield 44, 3) := by decide +kernel
theorem dX8_isZero_27 : decode cX8_isZero 27 = .ok (.imul, 1) := by decide +kernel
theorem dX8_isZero_28 : decode cX8_isZero 28 = .ok (.invokestatic 47, 3) := by decide +kernel
theorem dX8_isZero_31 : decode cX8_isZero 31 = .ok (.ifCond .eq 7, 3) := by decide +kernel
theorem dX8_isZero_34 : decode cX8_isZero 34 = .ok (.iconst 1, 1) := by decide +kernel
theorem dX8_isZero_35 : decode cX8_isZero 35 = .ok (.goto 4, 3) := by decide +kernel
theorem dX8_isZero_38 : decode cX8_isZero 38 = .ok (.iconst 0, 1) := by decide +kernel
theorem dX8_isZero_39 : decode cX8_isZero 39 = .ok (.istore_n 3, 1) := by decide +kernel
theorem dX8_isZero_40 : decode cX8_isZero 40 = .ok (.iconst 2, 1) := by decide +kernel
theorem dX8_isZero_41 : decode cX8_isZero 41 = .ok (.iload_n 2, 1) := by decide +kernel
theorem dX8_isZero_42 : decode cX8_isZero 42 = .ok (.imul, 1) := by decide +kernel
theorem dX8_isZero_43 : decode cX8_isZero 43 = .ok (.aload_n 0, 1) := by decide +kernel
theorem dX8_isZero_44 : decode cX8_isZero 44 = .ok (.getfield 32, 3) := by decide +kernel
theorem dX8_isZero_47 : decode cX8_isZero 47 = .ok (.irem, 1) := by decide +kernel
theorem dX8_isZero_48 : decode cX8_isZero 48 = .ok (.istore_n 2, 1) := by decide +kernel
theorem dX8_isZero_49 : decode cX8_isZero 49 = .ok (.iinc 4 1, 3) := by decide +kernel
theorem dX8_isZero_52 : decode cX8_isZero 52 = .ok (.goto (-45), 3) := by decide +kernel
theorem dX8_isZero_55 : decode cX8_isZero 55 = .ok (.iload_n 3, 1) := by decide +kernel
theorem dX8_isZero_56 : decode cX8_isZero 56 = .ok (.ireturn, 1) := by decide +kernel
theorem dX8_powerOf_0 : decode cX8_powerOf 0 = .ok (.iconst 1, 1) := by decide +kernel
theorem dX8_powerOf_1 : decode cX8_powerOf 1 = .ok (.istore_n 2, 1) := by decide +kernel
theorem dX8_powerOf_2 : decode cX8_powerOf 2 = .ok (.iconst 0, 1) := by decide +kernel
theorem dX8_powerOf_3 : decode cX8_powerOf 3 = .ok (.istore_n 3, 1) := by decide +kernel
theorem dX8_powerOf_4 : decode cX8_powerOf 4 = .ok (.iload_n 3, 1) := by decide +kernel
theorem dX8_powerOf_5 : decode cX8_powerOf 5 = .ok (.iload_n 1, 1) := by decide +kernel
theorem dX8_powerOf_6 : decode cX8_powerOf 6 = .ok (.aload_n 0, 1) := by decide +kernel
theorem dX8_powerOf_7 : decode cX8_powerOf 7 = .ok (.getfield 32, 3) := by decide +kernel
theorem dX8_powerOf_10 : decode cX8_powerOf 10 = .ok (.irem, 1) := by decide +kernel
theorem dX8_powerOf_11 : decode cX8_powerOf 11 = .ok (.if_icmp .ge 23, 3) := by decide +kernel
theorem dX8_powerOf_14 : decode cX8_powerOf 14 = .ok (.iload_n 2, 1) := by decide +kernel
theorem dX8_powerOf_15 : decode cX8_powerOf 15 = .ok (.iconst 2, 1) := by decide +kernel
theorem dX8_powerOf_16 : decode cX8_powerOf 16 = .ok (.aload_n 0, 1) := by decide +kernel
theorem dX8_powerOf_17 : decode cX8_powerOf 17 = .ok (.getfield 35, 3) := by decide +kernel
theorem dX8_powerOf_20 : decode cX8_powerOf 20 = .ok (.aload_n 0, 1) := by decide +kernel
theorem dX8_powerOf_21 : decode cX8_powerOf 21 = .ok (.getfield 38, 3) := by decide +kernel
theorem dX8_powerOf_24 : decode cX8_powerOf 24 = .ok (.invokestatic 41, 3) := by decide +kernel
theorem dX8_powerOf_27 : decode cX8_powerOf 27 = .ok (.istore_n 2, 1) := by decide +kernel
theorem dX8_powerOf_28 : decode cX8_powerOf 28 = .ok (.iinc 3 1, 3) := by decide +kernel
theorem dX8_powerOf_31 : decode cX8_powerOf 31 = .ok (.goto (-27), 3) := by decide +kernel
theorem dX8_powerOf_34 : decode cX8_powerOf 34 = .ok (.iload_n 2, 1) := by decide +kernel
theorem dX8_powerOf_35 : decode cX8_powerOf 35 = .ok (.ireturn, 1) := by decide +kernel
theorem dX8_length_0 : decode cX8_length 0 = .ok (.aload_n 0, 1) := by decide +kernel
theorem dX8_length_1 : decode cX8_length 1 = .ok (.aload_n 0, 1) := by decide +kernel
theorem dX8_length_2 : decode cX8_length 2 = .ok (.getfield 69, 3) := by decide +kernel
theorem dX8_length_5 : decode cX8_length 5 = .ok (.ifCond .eq 7, 3) := by decide +kernel
theorem dX8_length_8 : decode cX8_length 8 = .ok (.iconst 0, 1) := by decide +kernel
theorem dX8_length_9 : decode cX8_length 9 = .ok (.goto 4, 3) := by decide +kernel
theorem dX8_length_12 : decode cX8_length 12 = .ok (.iconst 1, 1) := by decide +kernel
theorem dX8_length_13 : decode cX8_length 13 = .ok (.putfield 28, 3) := by decide +kernel
theorem dX8_length_16 : decode cX8_length 16 = .ok (.aload_n 0, 1) := by decide +kernel
theorem dX8_length_17 : decode cX8_length 17 = .ok (.getfield 69, 3) := by decide +kernel
theorem dX8_length_20 : decode cX8_length 20 = .ok (.ifCond .eq 10, 3) := by decide +kernel
theorem dX8_length_23 : decode cX8_length 23 = .ok (.aload_n 0, 1) := by decide +kernel
theorem dX8_length_24 : decode cX8_length 24 = .ok (.getfield 32, 3) := by decide +kernel
theorem dX8_length_27 : decode cX8_length 27 = .ok (.goto 4, 3) := by decide +kernel
theorem dX8_length_30 : decode cX8_length 30 = .ok (.iconst 0, 1) := by decide +kernel
theorem dX8_length_31 : decode cX8_length 31 = .ok (.ireturn, 1) := by decide +kernel
theorem dX8_generator_0 : decode cX8_generator 0 = .ok (.aload_n 0, 1) := by decide +kernel
theorem dX8_generator_1 : decode cX8_generator 1 = .ok (.aload_n 0, 1) := by decide +kernel
theorem dX8_generator_2 : decode cX8_generator 2 = .ok (.getfield 69, 3) := by decide +kernel
theorem dX8_generator_5 : decode cX8_generator 5 = .ok (.ifCond .eq 7, 3) := by decide +kernel
theorem dX8_generator_8 : decode cX8_generator 8 = .ok (.iconst 0, 1) := by decide +kernel
theorem dX8_generator_9 : decode cX8_generator 9 = .ok (.goto 4, 3) := by decide +kernel
theorem dX8_generator_12 : decode cX8_generator 12 = .ok (.iconst 1, 1) := by decide +kernel
theorem dX8_generator_13 : decode cX8_generator 13 = .ok (.putfield 28, 3) := by decide +kernel
theorem dX8_generator_16 : decode cX8_generator 16 = .ok (.aload_n 0, 1) := by decide +kernel
theorem dX8_generator_17 : decode cX8_generator 17 = .ok (.getfield 69, 3) := by decide +kernel
theorem dX8_generator_20 : decode cX8_generator 20 = .ok (.ifCond .eq 10, 3) := by decide +kernel
theorem dX8_generator_23 : decode cX8_generator 23 = .ok (.aload_n 0, 1) := by decide +kernel
theorem dX8_generator_24 : decode cX8_generator 24 = .ok (.getfield 62, 3) := by decide +kernel
theorem dX8_generator_27 : decode cX8_generator 27 = .ok (.goto 4, 3) := by decide +kernel
theorem dX8_generator_30 : decode cX8_generator 30 = .ok (.iconst 0, 1) := by decide +kernel
theorem dX8_generator_31 : decode cX8_generator 31 = .ok (.ireturn, 1) := by decide +kernel
theorem dX8_power_0 : decode cX8_power 0 = .ok (.aload_n 0, 1) := by decide +kernel
theorem dX8_power_1 : decode cX8_power 1 = .ok (.aload_n 0, 1) := by decide +kernel
theorem dX8_power_2 : decode cX8_power 2 = .ok (.getfield 69, 3) := by decide +kernel
theorem dX8_power_5 : decode cX8_power 5 = .ok (.ifCond .ne 7, 3) := by decide +kernel
theorem dX8_power_8 : decode cX8_power 8 = .ok (.iconst 1, 1) := by decide +kernel
theorem dX8_power_9 : decode cX8_power 9 = .ok (.goto 12, 3) := by decide +kernel
theorem dX8_power_12 : decode cX8_power 12 = .ok (.iload_n 1, 1) := by decide +kernel
theorem dX8_power_13 : decode cX8_power 13 = .ok (.ifCond .ge 7, 3) := by decide +kernel
theorem dX8_power_16 : decode cX8_power 16 = .ok (.iconst 2, 1) := by decide +kernel
theorem dX8_power_17 : decode cX8_power 17 = .ok (.goto 4, 3) := by decide +kernel
theorem dX8_power_20 : decode cX8_power 20 = .ok (.iconst 0, 1) := by decide +kernel
theorem dX8_power_21 : decode cX8_power 21 = .ok (.putfield 28, 3) := by decide +kernel
theorem dX8_power_24 : decode cX8_power 24 = .ok (.aload_n 0, 1) := by decide +kernel
theorem dX8_power_25 : decode cX8_power 25 = .ok (.getfield 28, 3) := by decide +kernel
theorem dX8_power_28 : decode cX8_power 28 = .ok (.ifCond .le 7, 3) := by decide +kernel
theorem dX8_power_31 : decode cX8_power 31 = .ok (.iconst 0, 1) := by decide +kernel
theorem dX8_power_32 : decode cX8_power 32 = .ok (.goto 8, 3) := by decide +kernel
theorem dX8_power_35 : decode cX8_power 35 = .ok (.aload_n 0, 1) := by decide +kernel
theorem dX8_power_36 : decode cX8_power 36 = .ok (.iload_n 1, 1) := by decide +kernel
theorem dX8_power_37 : decode cX8_power 37 = .ok (.invokevirtual 58, 3) := by decide +kernel
theorem dX8_power_40 : decode cX8_power 40 = .ok (.ireturn, 1) := by decide +kernel
theorem dX8_log_0 : decode cX8_log 0 = .ok (.aload_n 0, 1) := by decide +kernel
theorem dX8_log_1 : decode cX8_log 1 = .ok (.aload_n 0, 1) := by decide +kernel
theorem dX8_log_2 : decode cX8_log 2 = .ok (.getfield 69, 3) := by decide +kernel
theorem dX8_log_5 : decode cX8_log 5 = .ok (.ifCond .ne 7, 3) := by decide +kernel
theorem dX8_log_8 : decode cX8_log 8 = .ok (.iconst 1, 1) := by decide +kernel
theorem dX8_log_9 : decode cX8_log 9 = .ok (.goto 20, 3) := by decide +kernel
theorem dX8_log_12 : decode cX8_log 12 = .ok (.iload_n 1, 1) := by decide +kernel
theorem dX8_log_13 : decode cX8_log 13 = .ok (.iconst 1, 1) := by decide +kernel
theorem dX8_log_14 : decode cX8_log 14 = .ok (.aload_n 0, 1) := by decide +kernel
theorem dX8_log_15 : decode cX8_log 15 = .ok (.getfield 32, 3) := by decide +kernel
theorem dX8_log_18 : decode cX8_log 18 = .ok (.invokestatic 47, 3) := by decide +kernel
theorem dX8_log_21 : decode cX8_log 21 = .ok (.ifCond .eq 7, 3) := by decide +kernel
theorem dX8_log_24 : decode cX8_log 24 = .ok (.iconst 0, 1) := by decide +kernel
theorem dX8_log_25 : decode cX8_log 25 = .ok (.goto 4, 3) := by decide +kernel
theorem dX8_log_28 : decode cX8_log 28 = .ok (.iconst 2, 1) := by decide +kernel
theorem dX8_log_29 : decode cX8_log 29 = .ok (.putfield 28, 3) := by decide +kernel
theorem dX8_log_32 : decode cX8_log 32 = .ok (.aload_n 0, 1) := by decide +kernel
theorem dX8_log_33 : decode cX8_log 33 = .ok (.getfield 28, 3) := by decide +kernel
theorem dX8_log_36 : decode cX8_log 36 = .ok (.ifCond .le 5, 3) := by decide +kernel
theorem dX8_log_39 : decode cX8_log 39 = .ok (.iconst 0, 1) := by decide +kernel
theorem dX8_log_40 : decode cX8_log 40 = .ok (.ireturn, 1) := by decide +kernel
theorem dX8_log_41 : decode cX8_log 41 = .ok (.iconst 0, 1) := by decide +kernel
theorem dX8_log_42 : decode cX8_log 42 = .ok (.istore_n 2, 1) := by decide +kernel
theorem dX8_log_43 : decode cX8_log 43 = .ok (.aload_n 0, 1) := by decide +kernel
theorem dX8_log_44 : decode cX8_log 44 = .ok (.iload_n 2, 1) := by decide +kernel
theorem dX8_log_45 : decode cX8_log 45 = .ok (.invokevirtual 58, 3) := by decide +kernel
theorem dX8_log_48 : decode cX8_log 48 = .ok (.iload_n 1, 1) := by decide +kernel
theorem dX8_log_49 : decode cX8_log 49 = .ok (.if_icmp .eq 9, 3) := by decide +kernel
theorem dX8_log_52 : decode cX8_log 52 = .ok (.iinc 2 1, 3) := by decide +kernel
theorem dX8_log_55 : decode cX8_log 55 = .ok (.goto (-12), 3) := by decide +kernel
theorem dX8_log_58 : decode cX8_log 58 = .ok (.iload_n 2, 1) := by decide +kernel
theorem dX8_log_59 : decode cX8_log 59 = .ok (.ireturn, 1) := by decide +kernel
theorem dX8_times_0 : decode cX8_times 0 = .ok (.aload_n 0, 1) := by decide +kernel
theorem dX8_times_1 : decode cX8_times 1 = .ok (.aload_n 0, 1) := by decide +kernel
theorem dX8_times_2 : decode cX8_times 2 = .ok (.getfield 69, 3) := by decide +kernel
theorem dX8_times_5 : decode cX8_times 5 = .ok (.ifCond .ne 7, 3) := by decide +kernel
theorem dX8_times_8 : decode cX8_times 8 = .ok (.iconst 1, 1) := by decide +kernel
theorem dX8_times_9 : decode cX8_times 9 = .ok (.goto 32, 3) := by decide +kernel
theorem dX8_times_12 : decode cX8_times 12 = .ok (.iload_n 1, 1) := by decide +kernel
theorem dX8_times_13 : decode cX8_times 13 = .ok (.iconst 0, 1) := by decide +kernel
theorem dX8_times_14 : decode cX8_times 14 = .ok (.aload_n 0, 1) := by decide +kernel
theorem dX8_times_15 : decode cX8_times 15 = .ok (.getfield 32, 3) := by decide +kernel
theorem dX8_times_18 : decode cX8_times 18 = .ok (.invokestatic 47, 3) := by decide +kernel
theorem dX8_times_21 : decode cX8_times 21 = .ok (.ifCond .eq 19, 3) := by decide +kernel
theorem dX8_times_24 : decode cX8_times 24 = .ok (.iload_n 2, 1) := by decide +kernel
theorem dX8_times_25 : decode cX8_times 25 = .ok (.iconst 0, 1) := by decide +kernel
theorem dX8_times_26 : decode cX8_times 26 = .ok (.aload_n 0, 1) := by decide +kernel
theorem dX8_times_27 : decode cX8_times 27 = .ok (.getfield 32, 3) := by decide +kernel
theorem dX8_times_30 : decode cX8_times 30 = .ok (.invokestatic 47, 3) := by decide +kernel
theorem dX8_times_33 : decode cX8_times 33 = .ok (.ifCond .eq 7, 3) := by decide +kernel
theorem dX8_times_36 : decode cX8_times 36 = .ok (.iconst 0, 1) := by decide +kernel
theorem dX8_times_37 : decode cX8_times 37 = .ok (.goto 4, 3) := by decide +kernel
theorem dX8_times_40 : decode cX8_times 40 = .ok (.iconst 2, 1) := by decide +kernel
theorem dX8_times_41 : decode cX8_times 41 = .ok (.putfield 28, 3) := by decide +kernel
theorem dX8_times_44 : decode cX8_times 44 = .ok (.aload_n 0, 1) := by decide +kernel
theorem dX8_times_45 : decode cX8_times 45 = .ok (.getfield 28, 3) := by decide +kernel
theorem dX8_times_48 : decode cX8_times 48 = .ok (.ifCond .le 7, 3) := by decide +kernel
theorem dX8_times_51 : decode cX8_times 51 = .ok (.iconst 0, 1) := by decide +kernel
theorem dX8_times_52 : decode cX8_times 52 = .ok (.goto 16, 3) := by decide +kernel
theorem dX8_times_55 : decode cX8_times 55 = .ok (.iload_n 1, 1) := by decide +kernel
theorem dX8_times_56 : decode cX8_times 56 = .ok (.iload_n 2, 1) := by decide +kernel
theorem dX8_times_57 : decode cX8_times 57 = .ok (.aload_n 0, 1) := by decide +kernel
theorem dX8_times_58 : decode cX8_times 58 = .ok (.getfield 35, 3) := by decide +kernel
theorem dX8_times_61 : decode cX8_times 61 = .ok (.aload_n 0, 1) := by decide +kernel
theorem dX8_times_62 : decode cX8_times 62 = .ok (.getfield 38, 3) := by decide +kernel
theorem dX8_times_65 : decode cX8_times 65 = .ok (.invokestatic 41, 3) := by decide +kernel
theorem dX8_times_68 : decode cX8_times 68 = .ok (.ireturn, 1) := by decide +kernel
theorem dX8_put_0 : decode cX8_put 0 = .ok (.aload_n 0, 1) := by decide +kernel
theorem dX8_put_1 : decode cX8_put 1 = .ok (.aload_n 0, 1) := by decide +kernel
theorem dX8_put_2 : decode cX8_put 2 = .ok (.getfield 69, 3) := by decide +kernel
theorem dX8_put_5 : decode cX8_put 5 = .ok (.ifCond .ne 7, 3) := by decide +kernel
theorem dX8_put_8 : decode cX8_put 8 = .ok (.iconst 1, 1) := by decide +kernel
theorem dX8_put_9 : decode cX8_put 9 = .ok (.goto 35, 3) := by decide +kernel
theorem dX8_put_12 : decode cX8_put 12 = .ok (.iload_n 1, 1) := by decide +kernel
theorem dX8_put_13 : decode cX8_put 13 = .ok (.iconst 0, 1) := by decide +kernel
theorem dX8_put_14 : decode cX8_put 14 = .ok (.aload_n 0, 1) := by decide +kernel
theorem dX8_put_15 : decode cX8_put 15 = .ok (.invokevirtual 79, 3) := by decide +kernel
theorem dX8_put_18 : decode cX8_put 18 = .ok (.iconst 1, 1) := by decide +kernel
theorem dX8_put_19 : decode cX8_put 19 = .ok (.isub, 1) := by decide +kernel
theorem dX8_put_20 : decode cX8_put 20 = .ok (.invokestatic 47, 3) := by decide +kernel
theorem dX8_put_23 : decode cX8_put 23 = .ok (.ifCond .ne 7, 3) := by decide +kernel
theorem dX8_put_26 : decode cX8_put 26 = .ok (.iconst 2, 1) := by decide +kernel
theorem dX8_put_27 : decode cX8_put 27 = .ok (.goto 17, 3) := by decide +kernel
theorem dX8_put_30 : decode cX8_put 30 = .ok (.iload_n 2, 1) := by decide +kernel
theorem dX8_put_31 : decode cX8_put 31 = .ok (.iconst 0, 1) := by decide +kernel
theorem dX8_put_32 : decode cX8_put 32 = .ok (.iconst 1, 1) := by decide +kernel
theorem dX8_put_33 : decode cX8_put 33 = .ok (.invokestatic 47, 3) := by decide +kernel
theorem dX8_put_36 : decode cX8_put 36 = .ok (.ifCond .eq 7, 3) := by decide +kernel
theorem dX8_put_39 : decode cX8_put 39 = .ok (.iconst 0, 1) := by decide +kernel
theorem dX8_put_40 : decode cX8_put 40 = .ok (.goto 4, 3) := by decide +kernel
theorem dX8_put_43 : decode cX8_put 43 = .ok (.iconst 3, 1) := by decide +kernel
theorem dX8_put_44 : decode cX8_put 44 = .ok (.putfield 28, 3) := by decide +kernel
theorem dX8_put_47 : decode cX8_put 47 = .ok (.aload_n 0, 1) := by decide +kernel
theorem dX8_put_48 : decode cX8_put 48 = .ok (.getfield 28, 3) := by decide +kernel
theorem dX8_put_51 : decode cX8_put 51 = .ok (.ifCond .ne 64, 3) := by decide +kernel
theorem dX8_put_54 : decode cX8_put 54 = .ok (.iload_n 1, 1) := by decide +kernel
theorem dX8_put_55 : decode cX8_put 55 = .ok (.aload_n 0, 1) := by decide +kernel
theorem dX8_put_56 : decode cX8_put 56 = .ok (.getfield 32, 3) := by decide +kernel
theorem dX8_put_59 : decode cX8_put 59 = .ok (.aload_n 0, 1) := by decide +kernel
theorem dX8_put_60 : decode cX8_put 60 = .ok (.getfield 51, 3) := by decide +kernel
theorem dX8_put_63 : decode cX8_put 63 = .ok (.isub, 1) := by decide +kernel
theorem dX8_put_64 : decode cX8_put 64 = .ok (.idiv, 1) := by decide +kernel
theorem dX8_put_65 : decode cX8_put 65 = .ok (.istore_n 3, 1) := by decide +kernel
theorem dX8_put_66 : decode cX8_put 66 = .ok (.iconst 1, 1) := by decide +kernel
theorem dX8_put_67 : decode cX8_put 67 = .ok (.iload_n 1, 1) := by decide +kernel
theorem dX8_put_68 : decode cX8_put 68 = .ok (.aload_n 0, 1) := by decide +kernel
theorem dX8_put_69 : decode cX8_put 69 = .ok (.getfield 32, 3) := by decide +kernel
theorem dX8_put_72 : decode cX8_put 72 = .ok (.aload_n 0, 1) := by decide +kernel
theorem dX8_put_73 : decode cX8_put 73 = .ok (.getfield 51, 3) := by decide +kernel
theorem dX8_put_76 : decode cX8_put 76 = .ok (.isub, 1) := by decide +kernel
theorem dX8_put_77 : decode cX8_put 77 = .ok (.irem, 1) := by decide +kernel
theorem dX8_put_78 : decode cX8_put 78 = .ok (.ishl, 1) := by decide +kernel
theorem dX8_put_79 : decode cX8_put 79 = .ok (.istore 4, 2) := by decide +kernel
theorem dX8_put_81 : decode cX8_put 81 = .ok (.aload_n 0, 1) := by decide +kernel
theorem dX8_put_82 : decode cX8_put 82 = .ok (.getfield 7, 3) := by decide +kernel
theorem dX8_put_85 : decode cX8_put 85 = .ok (.iload_n 3, 1) := by decide +kernel
theorem dX8_put_86 : decode cX8_put 86 = .ok (.iload_n 2, 1) := by decide +kernel
theorem dX8_put_87 : decode cX8_put 87 = .ok (.iconst 1, 1) := by decide +kernel
theorem dX8_put_88 : decode cX8_put 88 = .ok (.if_icmp .ne 15, 3) := by decide +kernel
theorem dX8_put_91 : decode cX8_put 91 = .ok (.aload_n 0, 1) := by decide +kernel
theorem dX8_put_92 : decode cX8_put 92 = .ok (.getfield 7, 3) := by decide +kernel
theorem dX8_put_95 : decode cX8_put 95 = .ok (.iload_n 3, 1) := by decide +kernel
theorem dX8_put_96 : decode cX8_put 96 = .ok (.iaload, 1) := by decide +kernel
theorem dX8_put_97 : decode cX8_put 97 = .ok (.iload 4, 2) := by decide +kernel
theorem dX8_put_99 : decode cX8_put 99 = .ok (.ior, 1) := by decide +kernel
theorem dX8_put_100 : decode cX8_put 100 = .ok (.goto 14, 3) := by decide +kernel
theorem dX8_put_103 : decode cX8_put 103 = .ok (.aload_n 0, 1) := by decide +kernel
theorem dX8_put_104 : decode cX8_put 104 = .ok (.getfield 7, 3) := by decide +kernel
theorem dX8_put_107 : decode cX8_put 107 = .ok (.iload_n 3, 1) := by decide +kernel
theorem dX8_put_108 : decode cX8_put 108 = .ok (.iaload, 1) := by decide +kernel
theorem dX8_put_109 : decode cX8_put 109 = .ok (.iload 4, 2) := by decide +kernel
theorem dX8_put_111 : decode cX8_put 111 = .ok (.iconst (-1), 1) := by decide +kernel
theorem dX8_put_112 : decode cX8_put 112 = .ok (.ixor, 1) := by decide +kernel
theorem dX8_put_113 : decode cX8_put 113 = .ok (.iand, 1) := by decide +kernel
theorem dX8_put_114 : decode cX8_put 114 = .ok (.iastore, 1) := by decide +kernel
theorem dX8_put_115 : decode cX8_put 115 = .ok (.return_, 1) := by decide +kernel
theorem dX8_messageBits_0 : decode cX8_messageBits 0 = .ok (.aload_n 0, 1) := by decide +kernel
theorem dX8_messageBits_1 : decode cX8_messageBits 1 = .ok (.getfield 69, 3) := by decide +kernel
theorem dX8_messageBits_4 : decode cX8_messageBits 4 = .ok (.ifCond .eq 20, 3) := by decide +kernel
theorem dX8_messageBits_7 : decode cX8_messageBits 7 = .ok (.aload_n 0, 1) := by decide +kernel
theorem dX8_messageBits_8 : decode cX8_messageBits 8 = .ok (.getfield 73, 3) := by decide +kernel
theorem dX8_messageBits_11 : decode cX8_messageBits 11 = .ok (.aload_n 0, 1) := by decide +kernel
theorem dX8_messageBits_12 : decode cX8_messageBits 12 = .ok (.getfield 32, 3) := by decide +kernel
theorem dX8_messageBits_15 : decode cX8_messageBits 15 = .ok (.aload_n 0, 1) := by decide +kernel
theorem dX8_messageBits_16 : decode cX8_messageBits 16 = .ok (.getfield 51, 3) := by decide +kernel
theorem dX8_messageBits_19 : decode cX8_messageBits 19 = .ok (.isub, 1) := by decide +kernel
theorem dX8_messageBits_20 : decode cX8_messageBits 20 = .ok (.imul, 1) := by decide +kernel
theorem dX8_messageBits_21 : decode cX8_messageBits 21 = .ok (.goto 4, 3) := by decide +kernel
theorem dX8_messageBits_24 : decode cX8_messageBits 24 = .ok (.iconst 0, 1) := by decide +kernel
theorem dX8_messageBits_25 : decode cX8_messageBits 25 = .ok (.ireturn, 1) := by decide +kernel
theorem dX8_get_0 : decode cX8_get 0 = .ok (.aload_n 0, 1) := by decide +kernel
theorem dX8_get_1 : decode cX8_get 1 = .ok (.aload_n 0, 1) := by decide +kernel
theorem dX8_get_2 : decode cX8_get 2 = .ok (.getfield 69, 3) := by decide +kernel
theorem dX8_get_5 : decode cX8_get 5 = .ok (.ifCond .ne 7, 3) := by decide +kernel
theorem dX8_get_8 : decode cX8_get 8 = .ok (.iconst 1, 1) := by decide +kernel
theorem dX8_get_9 : decode cX8_get 9 = .ok (.goto 22, 3) := by decide +kernel
theorem dX8_get_12 : decode cX8_get 12 = .ok (.iload_n 1, 1) := by decide +kernel
theorem dX8_get_13 : decode cX8_get 13 = .ok (.iconst 0, 1) := by decide +kernel
theorem dX8_get_14 : decode cX8_get 14 = .ok (.aload_n 0, 1) := by decide +kernel
theorem dX8_get_15 : decode cX8_get 15 = .ok (.invokevirtual 79, 3) := by decide +kernel
theorem dX8_get_18 : decode cX8_get 18 = .ok (.iconst 1, 1) := by decide +kernel
theorem dX8_get_19 : decode cX8_get 19 = .ok (.isub, 1) := by decide +kernel
theorem dX8_get_20 : decode cX8_get 20 = .ok (.invokestatic 47, 3) := by decide +kernel
theorem dX8_get_23 : decode cX8_get 23 = .ok (.ifCond .eq 7, 3) := by decide +kernel
theorem dX8_get_26 : decode cX8_get 26 = .ok (.iconst 0, 1) := by decide +kernel
theorem dX8_get_27 : decode cX8_get 27 = .ok (.goto 4, 3) := by decide +kernel
theorem dX8_get_30 : decode cX8_get 30 = .ok (.iconst 2, 1) := by decide +kernel
theorem dX8_get_31 : decode cX8_get 31 = .ok (.putfield 28, 3) := by decide +kernel
theorem dX8_get_34 : decode cX8_get 34 = .ok (.aload_n 0, 1) := by decide +kernel
theorem dX8_get_35 : decode cX8_get 35 = .ok (.getfield 28, 3) := by decide +kernel
theorem dX8_get_38 : decode cX8_get 38 = .ok (.ifCond .le 7, 3) := by decide +kernel
theorem dX8_get_41 : decode cX8_get 41 = .ok (.iconst 0, 1) := by decide +kernel
theorem dX8_get_42 : decode cX8_get 42 = .ok (.goto 33, 3) := by decide +kernel
theorem dX8_get_45 : decode cX8_get 45 = .ok (.aload_n 0, 1) := by decide +kernel
theorem dX8_get_46 : decode cX8_get 46 = .ok (.getfield 7, 3) := by decide +kernel
theorem dX8_get_49 : decode cX8_get 49 = .ok (.iload_n 1, 1) := by decide +kernel
theorem dX8_get_50 : decode cX8_get 50 = .ok (.aload_n 0, 1) := by decide +kernel
theorem dX8_get_51 : decode cX8_get 51 = .ok (.getfield 32, 3) := by decide +kernel
theorem dX8_get_54 : decode cX8_get 54 = .ok (.aload_n 0, 1) := by decide +kernel
theorem dX8_get_55 : decode cX8_get 55 = .ok (.getfield 51, 3) := by decide +kernel
theorem dX8_get_58 : decode cX8_get 58 = .ok (.isub, 1) := by decide +kernel
theorem dX8_get_59 : decode cX8_get 59 = .ok (.idiv, 1) := by decide +kernel
theorem dX8_get_60 : decode cX8_get 60 = .ok (.iaload, 1) := by decide +kernel
theorem dX8_get_61 : decode cX8_get 61 = .ok (.iload_n 1, 1) := by decide +kernel
theorem dX8_get_62 : decode cX8_get 62 = .ok (.aload_n 0, 1) := by decide +kernel
theorem dX8_get_63 : decode cX8_get 63 = .ok (.getfield 32, 3) := by decide +kernel
