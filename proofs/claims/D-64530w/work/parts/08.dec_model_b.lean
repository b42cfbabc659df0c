set_option maxRecDepth 100000
theorem dX8_get_66 : decode cX8_get 66 = .ok (.aload_n 0, 1) := by decide +kernel
theorem dX8_get_67 : decode cX8_get 67 = .ok (.getfield 51, 3) := by decide +kernel
theorem dX8_get_70 : decode cX8_get 70 = .ok (.isub, 1) := by decide +kernel
theorem dX8_get_71 : decode cX8_get 71 = .ok (.irem, 1) := by decide +kernel
theorem dX8_get_72 : decode cX8_get 72 = .ok (.ishr, 1) := by decide +kernel
theorem dX8_get_73 : decode cX8_get 73 = .ok (.iconst 1, 1) := by decide +kernel
theorem dX8_get_74 : decode cX8_get 74 = .ok (.iand, 1) := by decide +kernel
theorem dX8_get_75 : decode cX8_get 75 = .ok (.ireturn, 1) := by decide +kernel
theorem dX8_encode_0 : decode cX8_encode 0 = .ok (.aload_n 0, 1) := by decide +kernel
theorem dX8_encode_1 : decode cX8_encode 1 = .ok (.aload_n 0, 1) := by decide +kernel
theorem dX8_encode_2 : decode cX8_encode 2 = .ok (.getfield 69, 3) := by decide +kernel
theorem dX8_encode_5 : decode cX8_encode 5 = .ok (.ifCond .eq 7, 3) := by decide +kernel
theorem dX8_encode_8 : decode cX8_encode 8 = .ok (.iconst 0, 1) := by decide +kernel
theorem dX8_encode_9 : decode cX8_encode 9 = .ok (.goto 4, 3) := by decide +kernel
theorem dX8_encode_12 : decode cX8_encode 12 = .ok (.iconst 1, 1) := by decide +kernel
theorem dX8_encode_13 : decode cX8_encode 13 = .ok (.putfield 28, 3) := by decide +kernel
theorem dX8_encode_16 : decode cX8_encode 16 = .ok (.iconst 0, 1) := by decide +kernel
theorem dX8_encode_17 : decode cX8_encode 17 = .ok (.istore_n 1, 1) := by decide +kernel
theorem dX8_encode_18 : decode cX8_encode 18 = .ok (.iconst 0, 1) := by decide +kernel
theorem dX8_encode_19 : decode cX8_encode 19 = .ok (.istore_n 2, 1) := by decide +kernel
theorem dX8_encode_20 : decode cX8_encode 20 = .ok (.iload_n 2, 1) := by decide +kernel
theorem dX8_encode_21 : decode cX8_encode 21 = .ok (.aload_n 0, 1) := by decide +kernel
theorem dX8_encode_22 : decode cX8_encode 22 = .ok (.getfield 73, 3) := by decide +kernel
theorem dX8_encode_25 : decode cX8_encode 25 = .ok (.if_icmp .ge 53, 3) := by decide +kernel
theorem dX8_encode_28 : decode cX8_encode 28 = .ok (.aload_n 0, 1) := by decide +kernel
theorem dX8_encode_29 : decode cX8_encode 29 = .ok (.getfield 69, 3) := by decide +kernel
theorem dX8_encode_32 : decode cX8_encode 32 = .ok (.ifCond .eq 46, 3) := by decide +kernel
theorem dX8_encode_35 : decode cX8_encode 35 = .ok (.aload_n 0, 1) := by decide +kernel
theorem dX8_encode_36 : decode cX8_encode 36 = .ok (.getfield 7, 3) := by decide +kernel
theorem dX8_encode_39 : decode cX8_encode 39 = .ok (.iload_n 2, 1) := by decide +kernel
theorem dX8_encode_40 : decode cX8_encode 40 = .ok (.iaload, 1) := by decide +kernel
theorem dX8_encode_41 : decode cX8_encode 41 = .ok (.aload_n 0, 1) := by decide +kernel
theorem dX8_encode_42 : decode cX8_encode 42 = .ok (.getfield 51, 3) := by decide +kernel
theorem dX8_encode_45 : decode cX8_encode 45 = .ok (.ishl, 1) := by decide +kernel
theorem dX8_encode_46 : decode cX8_encode 46 = .ok (.istore_n 3, 1) := by decide +kernel
theorem dX8_encode_47 : decode cX8_encode 47 = .ok (.aload_n 0, 1) := by decide +kernel
theorem dX8_encode_48 : decode cX8_encode 48 = .ok (.getfield 13, 3) := by decide +kernel
theorem dX8_encode_51 : decode cX8_encode 51 = .ok (.iload_n 2, 1) := by decide +kernel
theorem dX8_encode_52 : decode cX8_encode 52 = .ok (.iload_n 3, 1) := by decide +kernel
theorem dX8_encode_53 : decode cX8_encode 53 = .ok (.aload_n 0, 1) := by decide +kernel
theorem dX8_encode_54 : decode cX8_encode 54 = .ok (.iload_n 3, 1) := by decide +kernel
theorem dX8_encode_55 : decode cX8_encode 55 = .ok (.invokevirtual 83, 3) := by decide +kernel
theorem dX8_encode_58 : decode cX8_encode 58 = .ok (.ior, 1) := by decide +kernel
theorem dX8_encode_59 : decode cX8_encode 59 = .ok (.iastore, 1) := by decide +kernel
theorem dX8_encode_60 : decode cX8_encode 60 = .ok (.iload_n 1, 1) := by decide +kernel
theorem dX8_encode_61 : decode cX8_encode 61 = .ok (.aload_n 0, 1) := by decide +kernel
theorem dX8_encode_62 : decode cX8_encode 62 = .ok (.getfield 13, 3) := by decide +kernel
theorem dX8_encode_65 : decode cX8_encode 65 = .ok (.iload_n 2, 1) := by decide +kernel
theorem dX8_encode_66 : decode cX8_encode 66 = .ok (.iaload, 1) := by decide +kernel
theorem dX8_encode_67 : decode cX8_encode 67 = .ok (.invokestatic 86, 3) := by decide +kernel
theorem dX8_encode_70 : decode cX8_encode 70 = .ok (.iadd, 1) := by decide +kernel
theorem dX8_encode_71 : decode cX8_encode 71 = .ok (.istore_n 1, 1) := by decide +kernel
theorem dX8_encode_72 : decode cX8_encode 72 = .ok (.iinc 2 1, 3) := by decide +kernel
theorem dX8_encode_75 : decode cX8_encode 75 = .ok (.goto (-55), 3) := by decide +kernel
theorem dX8_encode_78 : decode cX8_encode 78 = .ok (.iload_n 1, 1) := by decide +kernel
theorem dX8_encode_79 : decode cX8_encode 79 = .ok (.ireturn, 1) := by decide +kernel
theorem dX8_remainder_0 : decode cX8_remainder 0 = .ok (.iconst 0, 1) := by decide +kernel
theorem dX8_remainder_1 : decode cX8_remainder 1 = .ok (.istore_n 2, 1) := by decide +kernel
theorem dX8_remainder_2 : decode cX8_remainder 2 = .ok (.iconst 0, 1) := by decide +kernel
theorem dX8_remainder_3 : decode cX8_remainder 3 = .ok (.istore_n 3, 1) := by decide +kernel
theorem dX8_remainder_4 : decode cX8_remainder 4 = .ok (.iload_n 3, 1) := by decide +kernel
theorem dX8_remainder_5 : decode cX8_remainder 5 = .ok (.aload_n 0, 1) := by decide +kernel
theorem dX8_remainder_6 : decode cX8_remainder 6 = .ok (.getfield 32, 3) := by decide +kernel
theorem dX8_remainder_9 : decode cX8_remainder 9 = .ok (.if_icmp .ge 31, 3) := by decide +kernel
theorem dX8_remainder_12 : decode cX8_remainder 12 = .ok (.iload_n 1, 1) := by decide +kernel
theorem dX8_remainder_13 : decode cX8_remainder 13 = .ok (.iload_n 3, 1) := by decide +kernel
theorem dX8_remainder_14 : decode cX8_remainder 14 = .ok (.ishr, 1) := by decide +kernel
theorem dX8_remainder_15 : decode cX8_remainder 15 = .ok (.iconst 1, 1) := by decide +kernel
theorem dX8_remainder_16 : decode cX8_remainder 16 = .ok (.iand, 1) := by decide +kernel
theorem dX8_remainder_17 : decode cX8_remainder 17 = .ok (.iconst 1, 1) := by decide +kernel
theorem dX8_remainder_18 : decode cX8_remainder 18 = .ok (.if_icmp .ne 14, 3) := by decide +kernel
theorem dX8_remainder_21 : decode cX8_remainder 21 = .ok (.iload_n 2, 1) := by decide +kernel
theorem dX8_remainder_22 : decode cX8_remainder 22 = .ok (.aload_n 0, 1) := by decide +kernel
theorem dX8_remainder_23 : decode cX8_remainder 23 = .ok (.getfield 22, 3) := by decide +kernel
theorem dX8_remainder_26 : decode cX8_remainder 26 = .ok (.iload_n 3, 1) := by decide +kernel
theorem dX8_remainder_27 : decode cX8_remainder 27 = .ok (.iaload, 1) := by decide +kernel
theorem dX8_remainder_28 : decode cX8_remainder 28 = .ok (.ixor, 1) := by decide +kernel
theorem dX8_remainder_29 : decode cX8_remainder 29 = .ok (.goto 4, 3) := by decide +kernel
theorem dX8_remainder_32 : decode cX8_remainder 32 = .ok (.iload_n 2, 1) := by decide +kernel
theorem dX8_remainder_33 : decode cX8_remainder 33 = .ok (.istore_n 2, 1) := by decide +kernel
theorem dX8_remainder_34 : decode cX8_remainder 34 = .ok (.iinc 3 1, 3) := by decide +kernel
theorem dX8_remainder_37 : decode cX8_remainder 37 = .ok (.goto (-33), 3) := by decide +kernel
theorem dX8_remainder_40 : decode cX8_remainder 40 = .ok (.iload_n 2, 1) := by decide +kernel
theorem dX8_remainder_41 : decode cX8_remainder 41 = .ok (.ireturn, 1) := by decide +kernel
theorem dX8_ones_0 : decode cX8_ones 0 = .ok (.iconst 0, 1) := by decide +kernel
theorem dX8_ones_1 : decode cX8_ones 1 = .ok (.istore_n 1, 1) := by decide +kernel
theorem dX8_ones_2 : decode cX8_ones 2 = .ok (.iconst 0, 1) := by decide +kernel
theorem dX8_ones_3 : decode cX8_ones 3 = .ok (.istore_n 2, 1) := by decide +kernel
theorem dX8_ones_4 : decode cX8_ones 4 = .ok (.iload_n 2, 1) := by decide +kernel
theorem dX8_ones_5 : decode cX8_ones 5 = .ok (.bipush 31, 2) := by decide +kernel
theorem dX8_ones_7 : decode cX8_ones 7 = .ok (.if_icmp .ge 17, 3) := by decide +kernel
theorem dX8_ones_10 : decode cX8_ones 10 = .ok (.iload_n 1, 1) := by decide +kernel
theorem dX8_ones_11 : decode cX8_ones 11 = .ok (.iload_n 0, 1) := by decide +kernel
theorem dX8_ones_12 : decode cX8_ones 12 = .ok (.iload_n 2, 1) := by decide +kernel
theorem dX8_ones_13 : decode cX8_ones 13 = .ok (.ishr, 1) := by decide +kernel
theorem dX8_ones_14 : decode cX8_ones 14 = .ok (.iconst 1, 1) := by decide +kernel
theorem dX8_ones_15 : decode cX8_ones 15 = .ok (.iand, 1) := by decide +kernel
theorem dX8_ones_16 : decode cX8_ones 16 = .ok (.iadd, 1) := by decide +kernel
theorem dX8_ones_17 : decode cX8_ones 17 = .ok (.istore_n 1, 1) := by decide +kernel
theorem dX8_ones_18 : decode cX8_ones 18 = .ok (.iinc 2 1, 3) := by decide +kernel
theorem dX8_ones_21 : decode cX8_ones 21 = .ok (.goto (-17), 3) := by decide +kernel
theorem dX8_ones_24 : decode cX8_ones 24 = .ok (.iload_n 1, 1) := by decide +kernel
theorem dX8_ones_25 : decode cX8_ones 25 = .ok (.ireturn, 1) := by decide +kernel
theorem dX8_bit_0 : decode cX8_bit 0 = .ok (.aload_n 0, 1) := by decide +kernel
theorem dX8_bit_1 : decode cX8_bit 1 = .ok (.aload_n 0, 1) := by decide +kernel
theorem dX8_bit_2 : decode cX8_bit 2 = .ok (.getfield 69, 3) := by decide +kernel
theorem dX8_bit_5 : decode cX8_bit 5 = .ok (.ifCond .ne 7, 3) := by decide +kernel
theorem dX8_bit_8 : decode cX8_bit 8 = .ok (.iconst 1, 1) := by decide +kernel
theorem dX8_bit_9 : decode cX8_bit 9 = .ok (.goto 22, 3) := by decide +kernel
theorem dX8_bit_12 : decode cX8_bit 12 = .ok (.iload_n 1, 1) := by decide +kernel
theorem dX8_bit_13 : decode cX8_bit 13 = .ok (.iconst 0, 1) := by decide +kernel
theorem dX8_bit_14 : decode cX8_bit 14 = .ok (.aload_n 0, 1) := by decide +kernel
theorem dX8_bit_15 : decode cX8_bit 15 = .ok (.invokevirtual 89, 3) := by decide +kernel
theorem dX8_bit_18 : decode cX8_bit 18 = .ok (.iconst 1, 1) := by decide +kernel
theorem dX8_bit_19 : decode cX8_bit 19 = .ok (.isub, 1) := by decide +kernel
theorem dX8_bit_20 : decode cX8_bit 20 = .ok (.invokestatic 47, 3) := by decide +kernel
theorem dX8_bit_23 : decode cX8_bit 23 = .ok (.ifCond .eq 7, 3) := by decide +kernel
theorem dX8_bit_26 : decode cX8_bit 26 = .ok (.iconst 0, 1) := by decide +kernel
theorem dX8_bit_27 : decode cX8_bit 27 = .ok (.goto 4, 3) := by decide +kernel
theorem dX8_bit_30 : decode cX8_bit 30 = .ok (.iconst 2, 1) := by decide +kernel
theorem dX8_bit_31 : decode cX8_bit 31 = .ok (.putfield 28, 3) := by decide +kernel
theorem dX8_bit_34 : decode cX8_bit 34 = .ok (.aload_n 0, 1) := by decide +kernel
theorem dX8_bit_35 : decode cX8_bit 35 = .ok (.getfield 28, 3) := by decide +kernel
theorem dX8_bit_38 : decode cX8_bit 38 = .ok (.ifCond .le 7, 3) := by decide +kernel
theorem dX8_bit_41 : decode cX8_bit 41 = .ok (.iconst 0, 1) := by decide +kernel
theorem dX8_bit_42 : decode cX8_bit 42 = .ok (.goto 23, 3) := by decide +kernel
theorem dX8_bit_45 : decode cX8_bit 45 = .ok (.aload_n 0, 1) := by decide +kernel
theorem dX8_bit_46 : decode cX8_bit 46 = .ok (.getfield 13, 3) := by decide +kernel
theorem dX8_bit_49 : decode cX8_bit 49 = .ok (.iload_n 1, 1) := by decide +kernel
theorem dX8_bit_50 : decode cX8_bit 50 = .ok (.aload_n 0, 1) := by decide +kernel
theorem dX8_bit_51 : decode cX8_bit 51 = .ok (.getfield 73, 3) := by decide +kernel
theorem dX8_bit_54 : decode cX8_bit 54 = .ok (.irem, 1) := by decide +kernel
theorem dX8_bit_55 : decode cX8_bit 55 = .ok (.iaload, 1) := by decide +kernel
theorem dX8_bit_56 : decode cX8_bit 56 = .ok (.iload_n 1, 1) := by decide +kernel
theorem dX8_bit_57 : decode cX8_bit 57 = .ok (.aload_n 0, 1) := by decide +kernel
theorem dX8_bit_58 : decode cX8_bit 58 = .ok (.getfield 73, 3) := by decide +kernel
theorem dX8_bit_61 : decode cX8_bit 61 = .ok (.idiv, 1) := by decide +kernel
theorem dX8_bit_62 : decode cX8_bit 62 = .ok (.ishr, 1) := by decide +kernel
theorem dX8_bit_63 : decode cX8_bit 63 = .ok (.iconst 1, 1) := by decide +kernel
theorem dX8_bit_64 : decode cX8_bit 64 = .ok (.iand, 1) := by decide +kernel
theorem dX8_bit_65 : decode cX8_bit 65 = .ok (.ireturn, 1) := by decide +kernel
theorem dX8_channelBits_0 : decode cX8_channelBits 0 = .ok (.aload_n 0, 1) := by decide +kernel
theorem dX8_channelBits_1 : decode cX8_channelBits 1 = .ok (.getfield 69, 3) := by decide +kernel
theorem dX8_channelBits_4 : decode cX8_channelBits 4 = .ok (.ifCond .eq 15, 3) := by decide +kernel
theorem dX8_channelBits_7 : decode cX8_channelBits 7 = .ok (.aload_n 0, 1) := by decide +kernel
theorem dX8_channelBits_8 : decode cX8_channelBits 8 = .ok (.getfield 73, 3) := by decide +kernel
theorem dX8_channelBits_11 : decode cX8_channelBits 11 = .ok (.aload_n 0, 1) := by decide +kernel
theorem dX8_channelBits_12 : decode cX8_channelBits 12 = .ok (.getfield 32, 3) := by decide +kernel
theorem dX8_channelBits_15 : decode cX8_channelBits 15 = .ok (.imul, 1) := by decide +kernel
theorem dX8_channelBits_16 : decode cX8_channelBits 16 = .ok (.goto 4, 3) := by decide +kernel
theorem dX8_channelBits_19 : decode cX8_channelBits 19 = .ok (.iconst 0, 1) := by decide +kernel
theorem dX8_channelBits_20 : decode cX8_channelBits 20 = .ok (.ireturn, 1) := by decide +kernel
theorem dX8_burst_0 : decode cX8_burst 0 = .ok (.iload_n 1, 1) := by decide +kernel
theorem dX8_burst_1 : decode cX8_burst 1 = .ok (.iconst 0, 1) := by decide +kernel
theorem dX8_burst_2 : decode cX8_burst 2 = .ok (.aload_n 0, 1) := by decide +kernel
theorem dX8_burst_3 : decode cX8_burst 3 = .ok (.invokevirtual 89, 3) := by decide +kernel
theorem dX8_burst_6 : decode cX8_burst 6 = .ok (.iconst 1, 1) := by decide +kernel
theorem dX8_burst_7 : decode cX8_burst 7 = .ok (.isub, 1) := by decide +kernel
theorem dX8_burst_8 : decode cX8_burst 8 = .ok (.invokestatic 47, 3) := by decide +kernel
theorem dX8_burst_11 : decode cX8_burst 11 = .ok (.ifCond .eq 13, 3) := by decide +kernel
theorem dX8_burst_14 : decode cX8_burst 14 = .ok (.iload_n 2, 1) := by decide +kernel
theorem dX8_burst_15 : decode cX8_burst 15 = .ok (.aload_n 0, 1) := by decide +kernel
theorem dX8_burst_16 : decode cX8_burst 16 = .ok (.invokevirtual 89, 3) := by decide +kernel
theorem dX8_burst_19 : decode cX8_burst 19 = .ok (.iload_n 1, 1) := by decide +kernel
theorem dX8_burst_20 : decode cX8_burst 20 = .ok (.isub, 1) := by decide +kernel
theorem dX8_burst_21 : decode cX8_burst 21 = .ok (.if_icmp .le 7, 3) := by decide +kernel
theorem dX8_burst_24 : decode cX8_burst 24 = .ok (.iconst 1, 1) := by decide +kernel
theorem dX8_burst_25 : decode cX8_burst 25 = .ok (.goto 4, 3) := by decide +kernel
theorem dX8_burst_28 : decode cX8_burst 28 = .ok (.iconst 0, 1) := by decide +kernel
theorem dX8_burst_29 : decode cX8_burst 29 = .ok (.istore_n 3, 1) := by decide +kernel
theorem dX8_burst_30 : decode cX8_burst 30 = .ok (.aload_n 0, 1) := by decide +kernel
theorem dX8_burst_31 : decode cX8_burst 31 = .ok (.aload_n 0, 1) := by decide +kernel
theorem dX8_burst_32 : decode cX8_burst 32 = .ok (.getfield 69, 3) := by decide +kernel
theorem dX8_burst_35 : decode cX8_burst 35 = .ok (.ifCond .ne 7, 3) := by decide +kernel
theorem dX8_burst_38 : decode cX8_burst 38 = .ok (.iconst 1, 1) := by decide +kernel
theorem dX8_burst_39 : decode cX8_burst 39 = .ok (.goto 26, 3) := by decide +kernel
theorem dX8_burst_42 : decode cX8_burst 42 = .ok (.iload_n 3, 1) := by decide +kernel
theorem dX8_burst_43 : decode cX8_burst 43 = .ok (.ifCond .eq 7, 3) := by decide +kernel
theorem dX8_burst_46 : decode cX8_burst 46 = .ok (.iconst 2, 1) := by decide +kernel
theorem dX8_burst_47 : decode cX8_burst 47 = .ok (.goto 18, 3) := by decide +kernel
theorem dX8_burst_50 : decode cX8_burst 50 = .ok (.iload_n 2, 1) := by decide +kernel
theorem dX8_burst_51 : decode cX8_burst 51 = .ok (.iconst 1, 1) := by decide +kernel
theorem dX8_burst_52 : decode cX8_burst 52 = .ok (.bipush 124, 2) := by decide +kernel
theorem dX8_burst_54 : decode cX8_burst 54 = .ok (.invokestatic 47, 3) := by decide +kernel
theorem dX8_burst_57 : decode cX8_burst 57 = .ok (.ifCond .eq 7, 3) := by decide +kernel
theorem dX8_burst_60 : decode cX8_burst 60 = .ok (.iconst 0, 1) := by decide +kernel
theorem dX8_burst_61 : decode cX8_burst 61 = .ok (.goto 4, 3) := by decide +kernel
theorem dX8_burst_64 : decode cX8_burst 64 = .ok (.iconst 3, 1) := by decide +kernel
theorem dX8_burst_65 : decode cX8_burst 65 = .ok (.putfield 28, 3) := by decide +kernel
theorem dX8_burst_68 : decode cX8_burst 68 = .ok (.iconst 0, 1) := by decide +kernel
theorem dX8_burst_69 : decode cX8_burst 69 = .ok (.istore 4, 2) := by decide +kernel
theorem dX8_burst_71 : decode cX8_burst 71 = .ok (.iload 4, 2) := by decide +kernel
theorem dX8_burst_73 : decode cX8_burst 73 = .ok (.iload_n 2, 1) := by decide +kernel
theorem dX8_burst_74 : decode cX8_burst 74 = .ok (.if_icmp .ge 24, 3) := by decide +kernel
theorem dX8_burst_77 : decode cX8_burst 77 = .ok (.aload_n 0, 1) := by decide +kernel
theorem dX8_burst_78 : decode cX8_burst 78 = .ok (.getfield 28, 3) := by decide +kernel
theorem dX8_burst_81 : decode cX8_burst 81 = .ok (.ifCond .ne 17, 3) := by decide +kernel
theorem dX8_burst_84 : decode cX8_burst 84 = .ok (.aload_n 0, 1) := by decide +kernel
theorem dX8_burst_85 : decode cX8_burst 85 = .ok (.iload_n 1, 1) := by decide +kernel
theorem dX8_burst_86 : decode cX8_burst 86 = .ok (.iload 4, 2) := by decide +kernel
theorem dX8_burst_88 : decode cX8_burst 88 = .ok (.iadd, 1) := by decide +kernel
theorem dX8_burst_89 : decode cX8_burst 89 = .ok (.invokevirtual 92, 3) := by decide +kernel
theorem dX8_burst_92 : decode cX8_burst 92 = .ok (.iinc 4 1, 3) := by decide +kernel
theorem dX8_burst_95 : decode cX8_burst 95 = .ok (.goto (-24), 3) := by decide +kernel
theorem dX8_burst_98 : decode cX8_burst 98 = .ok (.return_, 1) := by decide +kernel
theorem dX8_flip_0 : decode cX8_flip 0 = .ok (.aload_n 0, 1) := by decide +kernel
theorem dX8_flip_1 : decode cX8_flip 1 = .ok (.getfield 13, 3) := by decide +kernel
theorem dX8_flip_4 : decode cX8_flip 4 = .ok (.iload_n 1, 1) := by decide +kernel
theorem dX8_flip_5 : decode cX8_flip 5 = .ok (.aload_n 0, 1) := by decide +kernel
theorem dX8_flip_6 : decode cX8_flip 6 = .ok (.getfield 73, 3) := by decide +kernel
theorem dX8_flip_9 : decode cX8_flip 9 = .ok (.irem, 1) := by decide +kernel
theorem dX8_flip_10 : decode cX8_flip 10 = .ok (.aload_n 0, 1) := by decide +kernel
theorem dX8_flip_11 : decode cX8_flip 11 = .ok (.getfield 13, 3) := by decide +kernel
theorem dX8_flip_14 : decode cX8_flip 14 = .ok (.iload_n 1, 1) := by decide +kernel
theorem dX8_flip_15 : decode cX8_flip 15 = .ok (.aload_n 0, 1) := by decide +kernel
theorem dX8_flip_16 : decode cX8_flip 16 = .ok (.getfield 73, 3) := by decide +kernel
theorem dX8_flip_19 : decode cX8_flip 19 = .ok (.irem, 1) := by decide +kernel
theorem dX8_flip_20 : decode cX8_flip 20 = .ok (.iaload, 1) := by decide +kernel
theorem dX8_flip_21 : decode cX8_flip 21 = .ok (.iconst 1, 1) := by decide +kernel
theorem dX8_flip_22 : decode cX8_flip 22 = .ok (.iload_n 1, 1) := by decide +kernel
theorem dX8_flip_23 : decode cX8_flip 23 = .ok (.aload_n 0, 1) := by decide +kernel
theorem dX8_flip_24 : decode cX8_flip 24 = .ok (.getfield 73, 3) := by decide +kernel
theorem dX8_flip_27 : decode cX8_flip 27 = .ok (.idiv, 1) := by decide +kernel
theorem dX8_flip_28 : decode cX8_flip 28 = .ok (.ishl, 1) := by decide +kernel
theorem dX8_flip_29 : decode cX8_flip 29 = .ok (.ixor, 1) := by decide +kernel
theorem dX8_flip_30 : decode cX8_flip 30 = .ok (.iastore, 1) := by decide +kernel
theorem dX8_flip_31 : decode cX8_flip 31 = .ok (.return_, 1) := by decide +kernel
theorem dX8_noise_0 : decode cX8_noise 0 = .ok (.aload_n 0, 1) := by decide +kernel
theorem dX8_noise_1 : decode cX8_noise 1 = .ok (.aload_n 0, 1) := by decide +kernel
theorem dX8_noise_2 : decode cX8_noise 2 = .ok (.getfield 69, 3) := by decide +kernel
theorem dX8_noise_5 : decode cX8_noise 5 = .ok (.ifCond .ne 7, 3) := by decide +kernel
theorem dX8_noise_8 : decode cX8_noise 8 = .ok (.iconst 1, 1) := by decide +kernel
theorem dX8_noise_9 : decode cX8_noise 9 = .ok (.goto 19, 3) := by decide +kernel
theorem dX8_noise_12 : decode cX8_noise 12 = .ok (.iload_n 2, 1) := by decide +kernel
theorem dX8_noise_13 : decode cX8_noise 13 = .ok (.iconst 0, 1) := by decide +kernel
theorem dX8_noise_14 : decode cX8_noise 14 = .ok (.sipush 1000, 3) := by decide +kernel
theorem dX8_noise_17 : decode cX8_noise 17 = .ok (.invokestatic 47, 3) := by decide +kernel
theorem dX8_noise_20 : decode cX8_noise 20 = .ok (.ifCond .eq 7, 3) := by decide +kernel
theorem dX8_noise_23 : decode cX8_noise 23 = .ok (.iconst 0, 1) := by decide +kernel
theorem dX8_noise_24 : decode cX8_noise 24 = .ok (.goto 4, 3) := by decide +kernel
theorem dX8_noise_27 : decode cX8_noise 27 = .ok (.iconst 2, 1) := by decide +kernel
theorem dX8_noise_28 : decode cX8_noise 28 = .ok (.putfield 28, 3) := by decide +kernel
theorem dX8_noise_31 : decode cX8_noise 31 = .ok (.iload_n 1, 1) := by decide +kernel
theorem dX8_noise_32 : decode cX8_noise 32 = .ok (.istore_n 3, 1) := by decide +kernel
theorem dX8_noise_33 : decode cX8_noise 33 = .ok (.iconst 0, 1) := by decide +kernel
theorem dX8_noise_34 : decode cX8_noise 34 = .ok (.istore 4, 2) := by decide +kernel
theorem dX8_noise_36 : decode cX8_noise 36 = .ok (.iconst 0, 1) := by decide +kernel
theorem dX8_noise_37 : decode cX8_noise 37 = .ok (.istore 5, 2) := by decide +kernel
theorem dX8_noise_39 : decode cX8_noise 39 = .ok (.iload 5, 2) := by decide +kernel
theorem dX8_noise_41 : decode cX8_noise 41 = .ok (.aload_n 0, 1) := by decide +kernel
theorem dX8_noise_42 : decode cX8_noise 42 = .ok (.invokevirtual 89, 3) := by decide +kernel
theorem dX8_noise_45 : decode cX8_noise 45 = .ok (.if_icmp .ge 46, 3) := by decide +kernel
theorem dX8_noise_48 : decode cX8_noise 48 = .ok (.aload_n 0, 1) := by decide +kernel
theorem dX8_noise_49 : decode cX8_noise 49 = .ok (.getfield 28, 3) := by decide +kernel
theorem dX8_noise_52 : decode cX8_noise 52 = .ok (.ifCond .ne 39, 3) := by decide +kernel
theorem dX8_noise_55 : decode cX8_noise 55 = .ok (.iload_n 3, 1) := by decide +kernel
theorem dX8_noise_56 : decode cX8_noise 56 = .ok (.ldc 96, 2) := by decide +kernel
theorem dX8_noise_58 : decode cX8_noise 58 = .ok (.imul, 1) := by decide +kernel
theorem dX8_noise_59 : decode cX8_noise 59 = .ok (.sipush 12345, 3) := by decide +kernel
theorem dX8_noise_62 : decode cX8_noise 62 = .ok (.iadd, 1) := by decide +kernel
theorem dX8_noise_63 : decode cX8_noise 63 = .ok (.istore_n 3, 1) := by decide +kernel
theorem dX8_noise_64 : decode cX8_noise 64 = .ok (.iload_n 3, 1) := by decide +kernel
theorem dX8_noise_65 : decode cX8_noise 65 = .ok (.bipush 16, 2) := by decide +kernel
theorem dX8_noise_67 : decode cX8_noise 67 = .ok (.iushr, 1) := by decide +kernel
theorem dX8_noise_68 : decode cX8_noise 68 = .ok (.sipush 1000, 3) := by decide +kernel
theorem dX8_noise_71 : decode cX8_noise 71 = .ok (.irem, 1) := by decide +kernel
theorem dX8_noise_72 : decode cX8_noise 72 = .ok (.iload_n 2, 1) := by decide +kernel
theorem dX8_noise_73 : decode cX8_noise 73 = .ok (.if_icmp .ge 12, 3) := by decide +kernel
theorem dX8_noise_76 : decode cX8_noise 76 = .ok (.aload_n 0, 1) := by decide +kernel
theorem dX8_noise_77 : decode cX8_noise 77 = .ok (.iload 5, 2) := by decide +kernel
theorem dX8_noise_79 : decode cX8_noise 79 = .ok (.invokevirtual 92, 3) := by decide +kernel
theorem dX8_noise_82 : decode cX8_noise 82 = .ok (.iinc 4 1, 3) := by decide +kernel
theorem dX8_noise_85 : decode cX8_noise 85 = .ok (.iinc 5 1, 3) := by decide +kernel
theorem dX8_noise_88 : decode cX8_noise 88 = .ok (.goto (-49), 3) := by decide +kernel
theorem dX8_noise_91 : decode cX8_noise 91 = .ok (.iload 4, 2) := by decide +kernel
theorem dX8_noise_93 : decode cX8_noise 93 = .ok (.ireturn, 1) := by decide +kernel
theorem dX8_syndrome_0 : decode cX8_syndrome 0 = .ok (.aload_n 0, 1) := by decide +kernel
theorem dX8_syndrome_1 : decode cX8_syndrome 1 = .ok (.aload_n 0, 1) := by decide +kernel
theorem dX8_syndrome_2 : decode cX8_syndrome 2 = .ok (.getfield 69, 3) := by decide +kernel
theorem dX8_syndrome_5 : decode cX8_syndrome 5 = .ok (.ifCond .ne 7, 3) := by decide +kernel
theorem dX8_syndrome_8 : decode cX8_syndrome 8 = .ok (.iconst 1, 1) := by decide +kernel
theorem dX8_syndrome_9 : decode cX8_syndrome 9 = .ok (.goto 36, 3) := by decide +kernel
theorem dX8_syndrome_12 : decode cX8_syndrome 12 = .ok (.iload_n 1, 1) := by decide +kernel
theorem dX8_syndrome_13 : decode cX8_syndrome 13 = .ok (.iconst 0, 1) := by decide +kernel
theorem dX8_syndrome_14 : decode cX8_syndrome 14 = .ok (.aload_n 0, 1) := by decide +kernel
theorem dX8_syndrome_15 : decode cX8_syndrome 15 = .ok (.getfield 73, 3) := by decide +kernel
theorem dX8_syndrome_18 : decode cX8_syndrome 18 = .ok (.iconst 1, 1) := by decide +kernel
theorem dX8_syndrome_19 : decode cX8_syndrome 19 = .ok (.isub, 1) := by decide +kernel
theorem dX8_syndrome_20 : decode cX8_syndrome 20 = .ok (.invokestatic 47, 3) := by decide +kernel
theorem dX8_syndrome_23 : decode cX8_syndrome 23 = .ok (.ifCond .eq 21, 3) := by decide +kernel
theorem dX8_syndrome_26 : decode cX8_syndrome 26 = .ok (.iload_n 2, 1) := by decide +kernel
theorem dX8_syndrome_27 : decode cX8_syndrome 27 = .ok (.iconst 1, 1) := by decide +kernel
theorem dX8_syndrome_28 : decode cX8_syndrome 28 = .ok (.iconst 2, 1) := by decide +kernel
theorem dX8_syndrome_29 : decode cX8_syndrome 29 = .ok (.aload_n 0, 1) := by decide +kernel
theorem dX8_syndrome_30 : decode cX8_syndrome 30 = .ok (.getfield 44, 3) := by decide +kernel
theorem dX8_syndrome_33 : decode cX8_syndrome 33 = .ok (.imul, 1) := by decide +kernel
theorem dX8_syndrome_34 : decode cX8_syndrome 34 = .ok (.invokestatic 47, 3) := by decide +kernel
theorem dX8_syndrome_37 : decode cX8_syndrome 37 = .ok (.ifCond .eq 7, 3) := by decide +kernel
theorem dX8_syndrome_40 : decode cX8_syndrome 40 = .ok (.iconst 0, 1) := by decide +kernel
theorem dX8_syndrome_41 : decode cX8_syndrome 41 = .ok (.goto 4, 3) := by decide +kernel
theorem dX8_syndrome_44 : decode cX8_syndrome 44 = .ok (.iconst 2, 1) := by decide +kernel
theorem dX8_syndrome_45 : decode cX8_syndrome 45 = .ok (.putfield 28, 3) := by decide +kernel
theorem dX8_syndrome_48 : decode cX8_syndrome 48 = .ok (.iconst 0, 1) := by decide +kernel
theorem dX8_syndrome_49 : decode cX8_syndrome 49 = .ok (.istore_n 3, 1) := by decide +kernel
theorem dX8_syndrome_50 : decode cX8_syndrome 50 = .ok (.iconst 0, 1) := by decide +kernel
theorem dX8_syndrome_51 : decode cX8_syndrome 51 = .ok (.istore 4, 2) := by decide +kernel
theorem dX8_syndrome_53 : decode cX8_syndrome 53 = .ok (.iload 4, 2) := by decide +kernel
theorem dX8_syndrome_55 : decode cX8_syndrome 55 = .ok (.aload_n 0, 1) := by decide +kernel
theorem dX8_syndrome_56 : decode cX8_syndrome 56 = .ok (.getfield 32, 3) := by decide +kernel
theorem dX8_syndrome_59 : decode cX8_syndrome 59 = .ok (.if_icmp .ge 46, 3) := by decide +kernel
theorem dX8_syndrome_62 : decode cX8_syndrome 62 = .ok (.aload_n 0, 1) := by decide +kernel
theorem dX8_syndrome_63 : decode cX8_syndrome 63 = .ok (.getfield 28, 3) := by decide +kernel
theorem dX8_syndrome_66 : decode cX8_syndrome 66 = .ok (.ifCond .ne 39, 3) := by decide +kernel
theorem dX8_syndrome_69 : decode cX8_syndrome 69 = .ok (.aload_n 0, 1) := by decide +kernel
theorem dX8_syndrome_70 : decode cX8_syndrome 70 = .ok (.getfield 13, 3) := by decide +kernel
theorem dX8_syndrome_73 : decode cX8_syndrome 73 = .ok (.iload_n 1, 1) := by decide +kernel
theorem dX8_syndrome_74 : decode cX8_syndrome 74 = .ok (.iaload, 1) := by decide +kernel
theorem dX8_syndrome_75 : decode cX8_syndrome 75 = .ok (.iload 4, 2) := by decide +kernel
theorem dX8_syndrome_77 : decode cX8_syndrome 77 = .ok (.ishr, 1) := by decide +kernel
theorem dX8_syndrome_78 : decode cX8_syndrome 78 = .ok (.iconst 1, 1) := by decide +kernel
theorem dX8_syndrome_79 : decode cX8_syndrome 79 = .ok (.iand, 1) := by decide +kernel
theorem dX8_syndrome_80 : decode cX8_syndrome 80 = .ok (.iconst 1, 1) := by decide +kernel
theorem dX8_syndrome_81 : decode cX8_syndrome 81 = .ok (.if_icmp .ne 16, 3) := by decide +kernel
theorem dX8_syndrome_84 : decode cX8_syndrome 84 = .ok (.iload_n 3, 1) := by decide +kernel
theorem dX8_syndrome_85 : decode cX8_syndrome 85 = .ok (.aload_n 0, 1) := by decide +kernel
theorem dX8_syndrome_86 : decode cX8_syndrome 86 = .ok (.iload 4, 2) := by decide +kernel
theorem dX8_syndrome_88 : decode cX8_syndrome 88 = .ok (.iload_n 2, 1) := by decide +kernel
theorem dX8_syndrome_89 : decode cX8_syndrome 89 = .ok (.imul, 1) := by decide +kernel
theorem dX8_syndrome_90 : decode cX8_syndrome 90 = .ok (.invokevirtual 58, 3) := by decide +kernel
theorem dX8_syndrome_93 : decode cX8_syndrome 93 = .ok (.ixor, 1) := by decide +kernel
theorem dX8_syndrome_94 : decode cX8_syndrome 94 = .ok (.goto 4, 3) := by decide +kernel
theorem dX8_syndrome_97 : decode cX8_syndrome 97 = .ok (.iload_n 3, 1) := by decide +kernel
theorem dX8_syndrome_98 : decode cX8_syndrome 98 = .ok (.istore_n 3, 1) := by decide +kernel
theorem dX8_syndrome_99 : decode cX8_syndrome 99 = .ok (.iinc 4 1, 3) := by decide +kernel
theorem dX8_syndrome_102 : decode cX8_syndrome 102 = .ok (.goto (-49), 3) := by decide +kernel
theorem dX8_syndrome_105 : decode cX8_syndrome 105 = .ok (.iload_n 3, 1) := by decide +kernel
theorem dX8_syndrome_106 : decode cX8_syndrome 106 = .ok (.ireturn, 1) := by decide +kernel
theorem dX8_decode_0 : decode cX8_decode 0 = .ok (.aload_n 0, 1) := by decide +kernel
theorem dX8_decode_1 : decode cX8_decode 1 = .ok (.aload_n 0, 1) := by decide +kernel
theorem dX8_decode_2 : decode cX8_decode 2 = .ok (.getfield 69, 3) := by decide +kernel
theorem dX8_decode_5 : decode cX8_decode 5 = .ok (.ifCond .ne 7, 3) := by decide +kernel
theorem dX8_decode_8 : decode cX8_decode 8 = .ok (.iconst 1, 1) := by decide +kernel
theorem dX8_decode_9 : decode cX8_decode 9 = .ok (.goto 17, 3) := by decide +kernel
theorem dX8_decode_12 : decode cX8_decode 12 = .ok (.iload_n 1, 1) := by decide +kernel
theorem dX8_decode_13 : decode cX8_decode 13 = .ok (.iconst 0, 1) := by decide +kernel
theorem dX8_decode_14 : decode cX8_decode 14 = .ok (.iconst 2, 1) := by decide +kernel
theorem dX8_decode_15 : decode cX8_decode 15 = .ok (.invokestatic 47, 3) := by decide +kernel
theorem dX8_decode_18 : decode cX8_decode 18 = .ok (.ifCond .eq 7, 3) := by decide +kernel
theorem dX8_decode_21 : decode cX8_decode 21 = .ok (.iconst 0, 1) := by decide +kernel
theorem dX8_decode_22 : decode cX8_decode 22 = .ok (.goto 4, 3) := by decide +kernel
theorem dX8_decode_25 : decode cX8_decode 25 = .ok (.iconst 2, 1) := by decide +kernel
theorem dX8_decode_26 : decode cX8_decode 26 = .ok (.putfield 28, 3) := by decide +kernel
theorem dX8_decode_29 : decode cX8_decode 29 = .ok (.aload_n 0, 1) := by decide +kernel
theorem dX8_decode_30 : decode cX8_decode 30 = .ok (.getfield 28, 3) := by decide +kernel
theorem dX8_decode_33 : decode cX8_decode 33 = .ok (.ifCond .le 7, 3) := by decide +kernel
theorem dX8_decode_36 : decode cX8_decode 36 = .ok (.iconst 0, 1) := by decide +kernel
theorem dX8_decode_37 : decode cX8_decode 37 = .ok (.goto 8, 3) := by decide +kernel
theorem dX8_decode_40 : decode cX8_decode 40 = .ok (.aload_n 0, 1) := by decide +kernel
theorem dX8_decode_41 : decode cX8_decode 41 = .ok (.iconst (-1), 1) := by decide +kernel
theorem dX8_decode_42 : decode cX8_decode 42 = .ok (.invokevirtual 100, 3) := by decide +kernel
theorem dX8_decode_45 : decode cX8_decode 45 = .ok (.istore_n 2, 1) := by decide +kernel
theorem dX8_decode_46 : decode cX8_decode 46 = .ok (.aload_n 0, 1) := by decide +kernel
theorem dX8_decode_47 : decode cX8_decode 47 = .ok (.iload_n 2, 1) := by decide +kernel
theorem dX8_decode_48 : decode cX8_decode 48 = .ok (.ifCond .ge 7, 3) := by decide +kernel
theorem dX8_decode_51 : decode cX8_decode 51 = .ok (.iconst 3, 1) := by decide +kernel
theorem dX8_decode_52 : decode cX8_decode 52 = .ok (.goto 7, 3) := by decide +kernel
theorem dX8_decode_55 : decode cX8_decode 55 = .ok (.aload_n 0, 1) := by decide +kernel
theorem dX8_decode_56 : decode cX8_decode 56 = .ok (.getfield 28, 3) := by decide +kernel
theorem dX8_decode_59 : decode cX8_decode 59 = .ok (.putfield 28, 3) := by decide +kernel
theorem dX8_decode_62 : decode cX8_decode 62 = .ok (.aload_n 0, 1) := by decide +kernel
theorem dX8_decode_63 : decode cX8_decode 63 = .ok (.getfield 28, 3) := by decide +kernel
theorem dX8_decode_66 : decode cX8_decode 66 = .ok (.ifCond .le 5, 3) := by decide +kernel
theorem dX8_decode_69 : decode cX8_decode 69 = .ok (.iconst 0, 1) := by decide +kernel
theorem dX8_decode_70 : decode cX8_decode 70 = .ok (.ireturn, 1) := by decide +kernel
theorem dX8_decode_71 : decode cX8_decode 71 = .ok (.aload_n 0, 1) := by decide +kernel
theorem dX8_decode_72 : decode cX8_decode 72 = .ok (.invokevirtual 103, 3) := by decide +kernel
theorem dX8_decode_75 : decode cX8_decode 75 = .ok (.iload_n 2, 1) := by decide +kernel
theorem dX8_decode_76 : decode cX8_decode 76 = .ok (.ireturn, 1) := by decide +kernel
theorem dX8_mend_0 : decode cX8_mend 0 = .ok (.iconst 0, 1) := by decide +kernel
theorem dX8_mend_1 : decode cX8_mend 1 = .ok (.istore_n 2, 1) := by decide +kernel
theorem dX8_mend_2 : decode cX8_mend 2 = .ok (.iconst 0, 1) := by decide +kernel
theorem dX8_mend_3 : decode cX8_mend 3 = .ok (.istore_n 3, 1) := by decide +kernel
theorem dX8_mend_4 : decode cX8_mend 4 = .ok (.iload_n 3, 1) := by decide +kernel
theorem dX8_mend_5 : decode cX8_mend 5 = .ok (.aload_n 0, 1) := by decide +kernel
theorem dX8_mend_6 : decode cX8_mend 6 = .ok (.getfield 73, 3) := by decide +kernel
theorem dX8_mend_9 : decode cX8_mend 9 = .ok (.if_icmp .ge 68, 3) := by decide +kernel
theorem dX8_mend_12 : decode cX8_mend 12 = .ok (.iload_n 1, 1) := by decide +kernel
theorem dX8_mend_13 : decode cX8_mend 13 = .ok (.ifCond .ge 12, 3) := by decide +kernel
theorem dX8_mend_16 : decode cX8_mend 16 = .ok (.aload_n 0, 1) := by decide +kernel
theorem dX8_mend_17 : decode cX8_mend 17 = .ok (.getfield 13, 3) := by decide +kernel
theorem dX8_mend_20 : decode cX8_mend 20 = .ok (.iload_n 3, 1) := by decide +kernel
theorem dX8_mend_21 : decode cX8_mend 21 = .ok (.iaload, 1) := by decide +kernel
theorem dX8_mend_22 : decode cX8_mend 22 = .ok (.goto 13, 3) := by decide +kernel
theorem dX8_mend_25 : decode cX8_mend 25 = .ok (.aload_n 0, 1) := by decide +kernel
theorem dX8_mend_26 : decode cX8_mend 26 = .ok (.getfield 16, 3) := by decide +kernel
theorem dX8_mend_29 : decode cX8_mend 29 = .ok (.iconst 4, 1) := by decide +kernel
theorem dX8_mend_30 : decode cX8_mend 30 = .ok (.iload_n 1, 1) := by decide +kernel
theorem dX8_mend_31 : decode cX8_mend 31 = .ok (.imul, 1) := by decide +kernel
theorem dX8_mend_32 : decode cX8_mend 32 = .ok (.iload_n 3, 1) := by decide +kernel
theorem dX8_mend_33 : decode cX8_mend 33 = .ok (.iadd, 1) := by decide +kernel
theorem dX8_mend_34 : decode cX8_mend 34 = .ok (.iaload, 1) := by decide +kernel
theorem dX8_mend_35 : decode cX8_mend 35 = .ok (.istore 4, 2) := by decide +kernel
theorem dX8_mend_37 : decode cX8_mend 37 = .ok (.aload_n 0, 1) := by decide +kernel
theorem dX8_mend_38 : decode cX8_mend 38 = .ok (.iload 4, 2) := by decide +kernel
theorem dX8_mend_40 : decode cX8_mend 40 = .ok (.invokevirtual 97, 3) := by decide +kernel
theorem dX8_mend_43 : decode cX8_mend 43 = .ok (.istore 5, 2) := by decide +kernel
theorem dX8_mend_45 : decode cX8_mend 45 = .ok (.iload 5, 2) := by decide +kernel
theorem dX8_mend_47 : decode cX8_mend 47 = .ok (.ifCond .ge 5, 3) := by decide +kernel
theorem dX8_mend_50 : decode cX8_mend 50 = .ok (.iconst (-1), 1) := by decide +kernel
theorem dX8_mend_51 : decode cX8_mend 51 = .ok (.ireturn, 1) := by decide +kernel
theorem dX8_mend_52 : decode cX8_mend 52 = .ok (.aload_n 0, 1) := by decide +kernel
theorem dX8_mend_53 : decode cX8_mend 53 = .ok (.getfield 19, 3) := by decide +kernel
theorem dX8_mend_56 : decode cX8_mend 56 = .ok (.iload_n 3, 1) := by decide +kernel
theorem dX8_mend_57 : decode cX8_mend 57 = .ok (.iload 4, 2) := by decide +kernel
theorem dX8_mend_59 : decode cX8_mend 59 = .ok (.iload 5, 2) := by decide +kernel
theorem dX8_mend_61 : decode cX8_mend 61 = .ok (.ixor, 1) := by decide +kernel
theorem dX8_mend_62 : decode cX8_mend 62 = .ok (.iastore, 1) := by decide +kernel
theorem dX8_mend_63 : decode cX8_mend 63 = .ok (.iload_n 2, 1) := by decide +kernel
theorem dX8_mend_64 : decode cX8_mend 64 = .ok (.iload 5, 2) := by decide +kernel
theorem dX8_mend_66 : decode cX8_mend 66 = .ok (.invokestatic 86, 3) := by decide +kernel
theorem dX8_mend_69 : decode cX8_mend 69 = .ok (.iadd, 1) := by decide +kernel
theorem dX8_mend_70 : decode cX8_mend 70 = .ok (.istore_n 2, 1) := by decide +kernel
theorem dX8_mend_71 : decode cX8_mend 71 = .ok (.iinc 3 1, 3) := by decide +kernel
theorem dX8_mend_74 : decode cX8_mend 74 = .ok (.goto (-70), 3) := by decide +kernel
theorem dX8_mend_77 : decode cX8_mend 77 = .ok (.iload_n 2, 1) := by decide +kernel
theorem dX8_mend_78 : decode cX8_mend 78 = .ok (.ireturn, 1) := by decide +kernel
theorem dX8_errorsOf_0 : decode cX8_errorsOf 0 = .ok (.aload_n 0, 1) := by decide +kernel
theorem dX8_errorsOf_1 : decode cX8_errorsOf 1 = .ok (.iload_n 1, 1) := by decide +kernel
theorem dX8_errorsOf_2 : decode cX8_errorsOf 2 = .ok (.invokevirtual 83, 3) := by decide +kernel
theorem dX8_errorsOf_5 : decode cX8_errorsOf 5 = .ok (.istore_n 2, 1) := by decide +kernel
theorem dX8_errorsOf_6 : decode cX8_errorsOf 6 = .ok (.iload_n 2, 1) := by decide +kernel
theorem dX8_errorsOf_7 : decode cX8_errorsOf 7 = .ok (.ifCond .ne 5, 3) := by decide +kernel
theorem dX8_errorsOf_10 : decode cX8_errorsOf 10 = .ok (.iconst 0, 1) := by decide +kernel
theorem dX8_errorsOf_11 : decode cX8_errorsOf 11 = .ok (.ireturn, 1) := by decide +kernel
theorem dX8_errorsOf_12 : decode cX8_errorsOf 12 = .ok (.iconst 0, 1) := by decide +kernel
theorem dX8_errorsOf_13 : decode cX8_errorsOf 13 = .ok (.istore_n 3, 1) := by decide +kernel
theorem dX8_errorsOf_14 : decode cX8_errorsOf 14 = .ok (.iload_n 3, 1) := by decide +kernel
theorem dX8_errorsOf_15 : decode cX8_errorsOf 15 = .ok (.aload_n 0, 1) := by decide +kernel
theorem dX8_errorsOf_16 : decode cX8_errorsOf 16 = .ok (.getfield 32, 3) := by decide +kernel
theorem dX8_errorsOf_19 : decode cX8_errorsOf 19 = .ok (.if_icmp .ge 147, 3) := by decide +kernel
theorem dX8_errorsOf_22 : decode cX8_errorsOf 22 = .ok (.aload_n 0, 1) := by decide +kernel
theorem dX8_errorsOf_23 : decode cX8_errorsOf 23 = .ok (.getfield 22, 3) := by decide +kernel
theorem dX8_errorsOf_26 : decode cX8_errorsOf 26 = .ok (.iload_n 3, 1) := by decide +kernel
theorem dX8_errorsOf_27 : decode cX8_errorsOf 27 = .ok (.iaload, 1) := by decide +kernel
theorem dX8_errorsOf_28 : decode cX8_errorsOf 28 = .ok (.iload_n 2, 1) := by decide +kernel
theorem dX8_errorsOf_29 : decode cX8_errorsOf 29 = .ok (.if_icmp .ne 7, 3) := by decide +kernel
theorem dX8_errorsOf_32 : decode cX8_errorsOf 32 = .ok (.iconst 1, 1) := by decide +kernel
theorem dX8_errorsOf_33 : decode cX8_errorsOf 33 = .ok (.iload_n 3, 1) := by decide +kernel
theorem dX8_errorsOf_34 : decode cX8_errorsOf 34 = .ok (.ishl, 1) := by decide +kernel
theorem dX8_errorsOf_35 : decode cX8_errorsOf 35 = .ok (.ireturn, 1) := by decide +kernel
theorem dX8_errorsOf_36 : decode cX8_errorsOf 36 = .ok (.iload_n 3, 1) := by decide +kernel
theorem dX8_errorsOf_37 : decode cX8_errorsOf 37 = .ok (.iconst 1, 1) := by decide +kernel
theorem dX8_errorsOf_38 : decode cX8_errorsOf 38 = .ok (.iadd, 1) := by decide +kernel
theorem dX8_errorsOf_39 : decode cX8_errorsOf 39 = .ok (.istore 4, 2) := by decide +kernel
theorem dX8_errorsOf_41 : decode cX8_errorsOf 41 = .ok (.iload 4, 2) := by decide +kernel
theorem dX8_errorsOf_43 : decode cX8_errorsOf 43 = .ok (.aload_n 0, 1) := by decide +kernel
theorem dX8_errorsOf_44 : decode cX8_errorsOf 44 = .ok (.getfield 32, 3) := by decide +kernel
theorem dX8_errorsOf_47 : decode cX8_errorsOf 47 = .ok (.if_icmp .ge 113, 3) := by decide +kernel
theorem dX8_errorsOf_50 : decode cX8_errorsOf 50 = .ok (.aload_n 0, 1) := by decide +kernel
theorem dX8_errorsOf_51 : decode cX8_errorsOf 51 = .ok (.getfield 44, 3) := by decide +kernel
theorem dX8_errorsOf_54 : decode cX8_errorsOf 54 = .ok (.iconst 1, 1) := by decide +kernel
theorem dX8_errorsOf_55 : decode cX8_errorsOf 55 = .ok (.if_icmp .le 105, 3) := by decide +kernel
theorem dX8_errorsOf_58 : decode cX8_errorsOf 58 = .ok (.aload_n 0, 1) := by decide +kernel
theorem dX8_errorsOf_59 : decode cX8_errorsOf 59 = .ok (.getfield 22, 3) := by decide +kernel
theorem dX8_errorsOf_62 : decode cX8_errorsOf 62 = .ok (.iload_n 3, 1) := by decide +kernel
theorem dX8_errorsOf_63 : decode cX8_errorsOf 63 = .ok (.iaload, 1) := by decide +kernel
theorem dX8_errorsOf_64 : decode cX8_errorsOf 64 = .ok (.aload_n 0, 1) := by decide +kernel
theorem dX8_errorsOf_65 : decode cX8_errorsOf 65 = .ok (.getfield 22, 3) := by decide +kernel
theorem dX8_errorsOf_68 : decode cX8_errorsOf 68 = .ok (.iload 4, 2) := by decide +kernel
theorem dX8_errorsOf_70 : decode cX8_errorsOf 70 = .ok (.iaload, 1) := by decide +kernel
theorem dX8_errorsOf_71 : decode cX8_errorsOf 71 = .ok (.ixor, 1) := by decide +kernel
theorem dX8_errorsOf_72 : decode cX8_errorsOf 72 = .ok (.iload_n 2, 1) := by decide +kernel
theorem dX8_errorsOf_73 : decode cX8_errorsOf 73 = .ok (.if_icmp .ne 12, 3) := by decide +kernel
theorem dX8_errorsOf_76 : decode cX8_errorsOf 76 = .ok (.iconst 1, 1) := by decide +kernel
theorem dX8_errorsOf_77 : decode cX8_errorsOf 77 = .ok (.iload_n 3, 1) := by decide +kernel
theorem dX8_errorsOf_78 : decode cX8_errorsOf 78 = .ok (.ishl, 1) := by decide +kernel
theorem dX8_errorsOf_79 : decode cX8_errorsOf 79 = .ok (.iconst 1, 1) := by decide +kernel
theorem dX8_errorsOf_80 : decode cX8_errorsOf 80 = .ok (.iload 4, 2) := by decide +kernel
theorem dX8_errorsOf_82 : decode cX8_errorsOf 82 = .ok (.ishl, 1) := by decide +kernel
theorem dX8_errorsOf_83 : decode cX8_errorsOf 83 = .ok (.ior, 1) := by decide +kernel
theorem dX8_errorsOf_84 : decode cX8_errorsOf 84 = .ok (.ireturn, 1) := by decide +kernel
theorem dX8_errorsOf_85 : decode cX8_errorsOf 85 = .ok (.iload 4, 2) := by decide +kernel
theorem dX8_errorsOf_87 : decode cX8_errorsOf 87 = .ok (.iconst 1, 1) := by decide +kernel
theorem dX8_errorsOf_88 : decode cX8_errorsOf 88 = .ok (.iadd, 1) := by decide +kernel
theorem dX8_errorsOf_89 : decode cX8_errorsOf 89 = .ok (.istore 5, 2) := by decide +kernel
theorem dX8_errorsOf_91 : decode cX8_errorsOf 91 = .ok (.iload 5, 2) := by decide +kernel
theorem dX8_errorsOf_93 : decode cX8_errorsOf 93 = .ok (.aload_n 0, 1) := by decide +kernel
theorem dX8_errorsOf_94 : decode cX8_errorsOf 94 = .ok (.getfield 32, 3) := by decide +kernel
theorem dX8_errorsOf_97 : decode cX8_errorsOf 97 = .ok (.if_icmp .ge 57, 3) := by decide +kernel
theorem dX8_errorsOf_100 : decode cX8_errorsOf 100 = .ok (.aload_n 0, 1) := by decide +kernel
theorem dX8_errorsOf_101 : decode cX8_errorsOf 101 = .ok (.getfield 44, 3) := by decide +kernel
theorem dX8_errorsOf_104 : decode cX8_errorsOf 104 = .ok (.iconst 2, 1) := by decide +kernel
theorem dX8_errorsOf_105 : decode cX8_errorsOf 105 = .ok (.if_icmp .le 49, 3) := by decide +kernel
theorem dX8_errorsOf_108 : decode cX8_errorsOf 108 = .ok (.aload_n 0, 1) := by decide +kernel
theorem dX8_errorsOf_109 : decode cX8_errorsOf 109 = .ok (.getfield 22, 3) := by decide +kernel
theorem dX8_errorsOf_112 : decode cX8_errorsOf 112 = .ok (.iload_n 3, 1) := by decide +kernel
theorem dX8_errorsOf_113 : decode cX8_errorsOf 113 = .ok (.iaload, 1) := by decide +kernel
theorem dX8_errorsOf_114 : decode cX8_errorsOf 114 = .ok (.aload_n 0, 1) := by decide +kernel
theorem dX8_errorsOf_115 : decode cX8_errorsOf 115 = .ok (.getfield 22, 3) := by decide +kernel
theorem dX8_errorsOf_118 : decode cX8_errorsOf 118 = .ok (.iload 4, 2) := by decide +kernel
theorem dX8_errorsOf_120 : decode cX8_errorsOf 120 = .ok (.iaload, 1) := by decide +kernel
theorem dX8_errorsOf_121 : decode cX8_errorsOf 121 = .ok (.ixor, 1) := by decide +kernel
theorem dX8_errorsOf_122 : decode cX8_errorsOf 122 = .ok (.aload_n 0, 1) := by decide +kernel
theorem dX8_errorsOf_123 : decode cX8_errorsOf 123 = .ok (.getfield 22, 3) := by decide +kernel
theorem dX8_errorsOf_126 : decode cX8_errorsOf 126 = .ok (.iload 5, 2) := by decide +kernel
theorem dX8_errorsOf_128 : decode cX8_errorsOf 128 = .ok (.iaload, 1) := by decide +kernel
theorem dX8_errorsOf_129 : decode cX8_errorsOf 129 = .ok (.ixor, 1) := by decide +kernel
theorem dX8_errorsOf_130 : decode cX8_errorsOf 130 = .ok (.iload_n 2, 1) := by decide +kernel
theorem dX8_errorsOf_131 : decode cX8_errorsOf 131 = .ok (.if_icmp .ne 17, 3) := by decide +kernel
theorem dX8_errorsOf_134 : decode cX8_errorsOf 134 = .ok (.iconst 1, 1) := by decide +kernel
theorem dX8_errorsOf_135 : decode cX8_errorsOf 135 = .ok (.iload_n 3, 1) := by decide +kernel
theorem dX8_errorsOf_136 : decode cX8_errorsOf 136 = .ok (.ishl, 1) := by decide +kernel
theorem dX8_errorsOf_137 : decode cX8_errorsOf 137 = .ok (.iconst 1, 1) := by decide +kernel
theorem dX8_errorsOf_138 : decode cX8_errorsOf 138 = .ok (.iload 4, 2) := by decide +kernel
theorem dX8_errorsOf_140 : decode cX8_errorsOf 140 = .ok (.ishl, 1) := by decide +kernel
theorem dX8_errorsOf_141 : decode cX8_errorsOf 141 = .ok (.ior, 1) := by decide +kernel
theorem dX8_errorsOf_142 : decode cX8_errorsOf 142 = .ok (.iconst 1, 1) := by decide +kernel
theorem dX8_errorsOf_143 : decode cX8_errorsOf 143 = .ok (.iload 5, 2) := by decide +kernel
theorem dX8_errorsOf_145 : decode cX8_errorsOf 145 = .ok (.ishl, 1) := by decide +kernel
theorem dX8_errorsOf_146 : decode cX8_errorsOf 146 = .ok (.ior, 1) := by decide +kernel
theorem dX8_errorsOf_147 : decode cX8_errorsOf 147 = .ok (.ireturn, 1) := by decide +kernel
theorem dX8_errorsOf_148 : decode cX8_errorsOf 148 = .ok (.iinc 5 1, 3) := by decide +kernel
theorem dX8_errorsOf_151 : decode cX8_errorsOf 151 = .ok (.goto (-60), 3) := by decide +kernel
theorem dX8_errorsOf_154 : decode cX8_errorsOf 154 = .ok (.iinc 4 1, 3) := by decide +kernel
theorem dX8_errorsOf_157 : decode cX8_errorsOf 157 = .ok (.goto (-116), 3) := by decide +kernel
theorem dX8_errorsOf_160 : decode cX8_errorsOf 160 = .ok (.iinc 3 1, 3) := by decide +kernel
theorem dX8_errorsOf_163 : decode cX8_errorsOf 163 = .ok (.goto (-149), 3) := by decide +kernel
theorem dX8_errorsOf_166 : decode cX8_errorsOf 166 = .ok (.iconst (-1), 1) := by decide +kernel
theorem dX8_errorsOf_167 : decode cX8_errorsOf 167 = .ok (.ireturn, 1) := by decide +kernel
theorem dX8_take_0 : decode cX8_take 0 = .ok (.iconst 0, 1) := by decide +kernel
theorem dX8_take_1 : decode cX8_take 1 = .ok (.istore_n 1, 1) := by decide +kernel
theorem dX8_take_2 : decode cX8_take 2 = .ok (.iload_n 1, 1) := by decide +kernel
theorem dX8_take_3 : decode cX8_take 3 = .ok (.aload_n 0, 1) := by decide +kernel
theorem dX8_take_4 : decode cX8_take 4 = .ok (.getfield 73, 3) := by decide +kernel
theorem dX8_take_7 : decode cX8_take 7 = .ok (.if_icmp .ge 38, 3) := by decide +kernel
theorem dX8_take_10 : decode cX8_take 10 = .ok (.aload_n 0, 1) := by decide +kernel
theorem dX8_take_11 : decode cX8_take 11 = .ok (.getfield 13, 3) := by decide +kernel
theorem dX8_take_14 : decode cX8_take 14 = .ok (.iload_n 1, 1) := by decide +kernel
theorem dX8_take_15 : decode cX8_take 15 = .ok (.aload_n 0, 1) := by decide +kernel
theorem dX8_take_16 : decode cX8_take 16 = .ok (.getfield 19, 3) := by decide +kernel
theorem dX8_take_19 : decode cX8_take 19 = .ok (.iload_n 1, 1) := by decide +kernel
theorem dX8_take_20 : decode cX8_take 20 = .ok (.iaload, 1) := by decide +kernel
theorem dX8_take_21 : decode cX8_take 21 = .ok (.iastore, 1) := by decide +kernel
theorem dX8_take_22 : decode cX8_take 22 = .ok (.aload_n 0, 1) := by decide +kernel
theorem dX8_take_23 : decode cX8_take 23 = .ok (.getfield 7, 3) := by decide +kernel
theorem dX8_take_26 : decode cX8_take 26 = .ok (.iload_n 1, 1) := by decide +kernel
theorem dX8_take_27 : decode cX8_take 27 = .ok (.aload_n 0, 1) := by decide +kernel
theorem dX8_take_28 : decode cX8_take 28 = .ok (.getfield 19, 3) := by decide +kernel
theorem dX8_take_31 : decode cX8_take 31 = .ok (.iload_n 1, 1) := by decide +kernel
theorem dX8_take_32 : decode cX8_take 32 = .ok (.iaload, 1) := by decide +kernel
theorem dX8_take_33 : decode cX8_take 33 = .ok (.aload_n 0, 1) := by decide +kernel
theorem dX8_take_34 : decode cX8_take 34 = .ok (.getfield 51, 3) := by decide +kernel
theorem dX8_take_37 : decode cX8_take 37 = .ok (.ishr, 1) := by decide +kernel
theorem dX8_take_38 : decode cX8_take 38 = .ok (.iastore, 1) := by decide +kernel
theorem dX8_take_39 : decode cX8_take 39 = .ok (.iinc 1 1, 3) := by decide +kernel
theorem dX8_take_42 : decode cX8_take 42 = .ok (.goto (-40), 3) := by decide +kernel
theorem dX8_take_45 : decode cX8_take 45 = .ok (.return_, 1) := by decide +kernel
theorem dX8_save_0 : decode cX8_save 0 = .ok (.aload_n 0, 1) := by decide +kernel
theorem dX8_save_1 : decode cX8_save 1 = .ok (.aload_n 0, 1) := by decide +kernel
theorem dX8_save_2 : decode cX8_save 2 = .ok (.getfield 69, 3) := by decide +kernel
theorem dX8_save_5 : decode cX8_save 5 = .ok (.ifCond .ne 7, 3) := by decide +kernel
theorem dX8_save_8 : decode cX8_save 8 = .ok (.iconst 1, 1) := by decide +kernel
theorem dX8_save_9 : decode cX8_save 9 = .ok (.goto 17, 3) := by decide +kernel
theorem dX8_save_12 : decode cX8_save 12 = .ok (.iload_n 1, 1) := by decide +kernel
theorem dX8_save_13 : decode cX8_save 13 = .ok (.iconst 0, 1) := by decide +kernel
theorem dX8_save_14 : decode cX8_save 14 = .ok (.iconst 3, 1) := by decide +kernel
theorem dX8_save_15 : decode cX8_save 15 = .ok (.invokestatic 47, 3) := by decide +kernel
theorem dX8_save_18 : decode cX8_save 18 = .ok (.ifCond .eq 7, 3) := by decide +kernel
theorem dX8_save_21 : decode cX8_save 21 = .ok (.iconst 0, 1) := by decide +kernel
theorem dX8_save_22 : decode cX8_save 22 = .ok (.goto 4, 3) := by decide +kernel
theorem dX8_save_25 : decode cX8_save 25 = .ok (.iconst 2, 1) := by decide +kernel
theorem dX8_save_26 : decode cX8_save 26 = .ok (.putfield 28, 3) := by decide +kernel
theorem dX8_save_29 : decode cX8_save 29 = .ok (.iconst 0, 1) := by decide +kernel
theorem dX8_save_30 : decode cX8_save 30 = .ok (.istore_n 2, 1) := by decide +kernel
theorem dX8_save_31 : decode cX8_save 31 = .ok (.iload_n 2, 1) := by decide +kernel
theorem dX8_save_32 : decode cX8_save 32 = .ok (.aload_n 0, 1) := by decide +kernel
theorem dX8_save_33 : decode cX8_save 33 = .ok (.getfield 73, 3) := by decide +kernel
theorem dX8_save_36 : decode cX8_save 36 = .ok (.if_icmp .ge 32, 3) := by decide +kernel
theorem dX8_save_39 : decode cX8_save 39 = .ok (.aload_n 0, 1) := by decide +kernel
theorem dX8_save_40 : decode cX8_save 40 = .ok (.getfield 28, 3) := by decide +kernel
theorem dX8_save_43 : decode cX8_save 43 = .ok (.ifCond .ne 25, 3) := by decide +kernel
theorem dX8_save_46 : decode cX8_save 46 = .ok (.aload_n 0, 1) := by decide +kernel
theorem dX8_save_47 : decode cX8_save 47 = .ok (.getfield 16, 3) := by decide +kernel
theorem dX8_save_50 : decode cX8_save 50 = .ok (.iconst 4, 1) := by decide +kernel
theorem dX8_save_51 : decode cX8_save 51 = .ok (.iload_n 1, 1) := by decide +kernel
theorem dX8_save_52 : decode cX8_save 52 = .ok (.imul, 1) := by decide +kernel
theorem dX8_save_53 : decode cX8_save 53 = .ok (.iload_n 2, 1) := by decide +kernel
theorem dX8_save_54 : decode cX8_save 54 = .ok (.iadd, 1) := by decide +kernel
theorem dX8_save_55 : decode cX8_save 55 = .ok (.aload_n 0, 1) := by decide +kernel
theorem dX8_save_56 : decode cX8_save 56 = .ok (.getfield 13, 3) := by decide +kernel
theorem dX8_save_59 : decode cX8_save 59 = .ok (.iload_n 2, 1) := by decide +kernel
theorem dX8_save_60 : decode cX8_save 60 = .ok (.iaload, 1) := by decide +kernel
theorem dX8_save_61 : decode cX8_save 61 = .ok (.iastore, 1) := by decide +kernel
theorem dX8_save_62 : decode cX8_save 62 = .ok (.iinc 2 1, 3) := by decide +kernel
theorem dX8_save_65 : decode cX8_save 65 = .ok (.goto (-34), 3) := by decide +kernel
theorem dX8_save_68 : decode cX8_save 68 = .ok (.return_, 1) := by decide +kernel
theorem dX8_load_0 : decode cX8_load 0 = .ok (.aload_n 0, 1) := by decide +kernel
theorem dX8_load_1 : decode cX8_load 1 = .ok (.aload_n 0, 1) := by decide +kernel
theorem dX8_load_2 : decode cX8_load 2 = .ok (.getfield 69, 3) := by decide +kernel
theorem dX8_load_5 : decode cX8_load 5 = .ok (.ifCond .ne 7, 3) := by decide +kernel
theorem dX8_load_8 : decode cX8_load 8 = .ok (.iconst 1, 1) := by decide +kernel
theorem dX8_load_9 : decode cX8_load 9 = .ok (.goto 17, 3) := by decide +kernel
theorem dX8_load_12 : decode cX8_load 12 = .ok (.iload_n 1, 1) := by decide +kernel
theorem dX8_load_13 : decode cX8_load 13 = .ok (.iconst 0, 1) := by decide +kernel
theorem dX8_load_14 : decode cX8_load 14 = .ok (.iconst 3, 1) := by decide +kernel
theorem dX8_load_15 : decode cX8_load 15 = .ok (.invokestatic 47, 3) := by decide +kernel
theorem dX8_load_18 : decode cX8_load 18 = .ok (.ifCond .eq 7, 3) := by decide +kernel
theorem dX8_load_21 : decode cX8_load 21 = .ok (.iconst 0, 1) := by decide +kernel
theorem dX8_load_22 : decode cX8_load 22 = .ok (.goto 4, 3) := by decide +kernel
theorem dX8_load_25 : decode cX8_load 25 = .ok (.iconst 2, 1) := by decide +kernel
theorem dX8_load_26 : decode cX8_load 26 = .ok (.putfield 28, 3) := by decide +kernel
theorem dX8_load_29 : decode cX8_load 29 = .ok (.aload_n 0, 1) := by decide +kernel
theorem dX8_load_30 : decode cX8_load 30 = .ok (.getfield 28, 3) := by decide +kernel
theorem dX8_load_33 : decode cX8_load 33 = .ok (.ifCond .le 7, 3) := by decide +kernel
theorem dX8_load_36 : decode cX8_load 36 = .ok (.iconst 0, 1) := by decide +kernel
theorem dX8_load_37 : decode cX8_load 37 = .ok (.goto 8, 3) := by decide +kernel
theorem dX8_load_40 : decode cX8_load 40 = .ok (.aload_n 0, 1) := by decide +kernel
theorem dX8_load_41 : decode cX8_load 41 = .ok (.iload_n 1, 1) := by decide +kernel
theorem dX8_load_42 : decode cX8_load 42 = .ok (.invokevirtual 100, 3) := by decide +kernel
theorem dX8_load_45 : decode cX8_load 45 = .ok (.istore_n 2, 1) := by decide +kernel
theorem dX8_load_46 : decode cX8_load 46 = .ok (.aload_n 0, 1) := by decide +kernel
theorem dX8_load_47 : decode cX8_load 47 = .ok (.iload_n 2, 1) := by decide +kernel
theorem dX8_load_48 : decode cX8_load 48 = .ok (.ifCond .ge 7, 3) := by decide +kernel
theorem dX8_load_51 : decode cX8_load 51 = .ok (.iconst 3, 1) := by decide +kernel
theorem dX8_load_52 : decode cX8_load 52 = .ok (.goto 7, 3) := by decide +kernel
theorem dX8_load_55 : decode cX8_load 55 = .ok (.aload_n 0, 1) := by decide +kernel
theorem dX8_load_56 : decode cX8_load 56 = .ok (.getfield 28, 3) := by decide +kernel
theorem dX8_load_59 : decode cX8_load 59 = .ok (.putfield 28, 3) := by decide +kernel
theorem dX8_load_62 : decode cX8_load 62 = .ok (.aload_n 0, 1) := by decide +kernel
theorem dX8_load_63 : decode cX8_load 63 = .ok (.getfield 28, 3) := by decide +kernel
theorem dX8_load_66 : decode cX8_load 66 = .ok (.ifCond .le 5, 3) := by decide +kernel
theorem dX8_load_69 : decode cX8_load 69 = .ok (.iconst 0, 1) := by decide +kernel
theorem dX8_load_70 : decode cX8_load 70 = .ok (.ireturn, 1) := by decide +kernel
theorem dX8_load_71 : decode cX8_load 71 = .ok (.aload_n 0, 1) := by decide +kernel
theorem dX8_load_72 : decode cX8_load 72 = .ok (.invokevirtual 103, 3) := by decide +kernel
theorem dX8_load_75 : decode cX8_load 75 = .ok (.iconst 0, 1) := by decide +kernel
theorem dX8_load_76 : decode cX8_load 76 = .ok (.istore_n 3, 1) := by decide +kernel
theorem dX8_load_77 : decode cX8_load 77 = .ok (.iload_n 3, 1) := by decide +kernel
theorem dX8_load_78 : decode cX8_load 78 = .ok (.aload_n 0, 1) := by decide +kernel
theorem dX8_load_79 : decode cX8_load 79 = .ok (.getfield 73, 3) := by decide +kernel
theorem dX8_load_82 : decode cX8_load 82 = .ok (.if_icmp .ge 25, 3) := by decide +kernel
theorem dX8_load_85 : decode cX8_load 85 = .ok (.aload_n 0, 1) := by decide +kernel
theorem dX8_load_86 : decode cX8_load 86 = .ok (.getfield 16, 3) := by decide +kernel
theorem dX8_load_89 : decode cX8_load 89 = .ok (.iconst 4, 1) := by decide +kernel
theorem dX8_load_90 : decode cX8_load 90 = .ok (.iload_n 1, 1) := by decide +kernel
theorem dX8_load_91 : decode cX8_load 91 = .ok (.imul, 1) := by decide +kernel
theorem dX8_load_92 : decode cX8_load 92 = .ok (.iload_n 3, 1) := by decide +kernel
theorem dX8_load_93 : decode cX8_load 93 = .ok (.iadd, 1) := by decide +kernel
theorem dX8_load_94 : decode cX8_load 94 = .ok (.aload_n 0, 1) := by decide +kernel
theorem dX8_load_95 : decode cX8_load 95 = .ok (.getfield 13, 3) := by decide +kernel
theorem dX8_load_98 : decode cX8_load 98 = .ok (.iload_n 3, 1) := by decide +kernel
theorem dX8_load_99 : decode cX8_load 99 = .ok (.iaload, 1) := by decide +kernel
theorem dX8_load_100 : decode cX8_load 100 = .ok (.iastore, 1) := by decide +kernel
theorem dX8_load_101 : decode cX8_load 101 = .ok (.iinc 3 1, 3) := by decide +kernel
theorem dX8_load_104 : decode cX8_load 104 = .ok (.goto (-27), 3) := by decide +kernel
theorem dX8_load_107 : decode cX8_load 107 = .ok (.iload_n 2, 1) := by decide +kernel
theorem dX8_load_108 : decode cX8_load 108 = .ok (.ireturn, 1) := by decide +kernel
