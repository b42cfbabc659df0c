set_option maxRecDepth 100000
theorem dX0_begin_0 : decode cX0_begin 0 = .ok (.aload 4, 2) := by decide +kernel
theorem dX0_begin_2 : decode cX0_begin 2 = .ok (.iconst 0, 1) := by decide +kernel
theorem dX0_begin_3 : decode cX0_begin 3 = .ok (.aload_n 0, 1) := by decide +kernel
theorem dX0_begin_4 : decode cX0_begin 4 = .ok (.iload_n 1, 1) := by decide +kernel
theorem dX0_begin_5 : decode cX0_begin 5 = .ok (.iload_n 2, 1) := by decide +kernel
theorem dX0_begin_6 : decode cX0_begin 6 = .ok (.iload_n 3, 1) := by decide +kernel
theorem dX0_begin_7 : decode cX0_begin 7 = .ok (.invokevirtual 7, 3) := by decide +kernel
theorem dX0_begin_10 : decode cX0_begin 10 = .ok (.i2l, 1) := by decide +kernel
theorem dX0_begin_11 : decode cX0_begin 11 = .ok (.lastore, 1) := by decide +kernel
theorem dX0_begin_12 : decode cX0_begin 12 = .ok (.goto 11, 3) := by decide +kernel
theorem dX0_begin_15 : decode cX0_begin 15 = .ok (.astore 5, 2) := by decide +kernel
theorem dX0_begin_17 : decode cX0_begin 17 = .ok (.iconst 1, 1) := by decide +kernel
theorem dX0_begin_18 : decode cX0_begin 18 = .ok (.ireturn, 1) := by decide +kernel
theorem dX0_begin_19 : decode cX0_begin 19 = .ok (.astore 5, 2) := by decide +kernel
theorem dX0_begin_21 : decode cX0_begin 21 = .ok (.iconst 2, 1) := by decide +kernel
theorem dX0_begin_22 : decode cX0_begin 22 = .ok (.ireturn, 1) := by decide +kernel
theorem dX0_begin_23 : decode cX0_begin 23 = .ok (.iconst 0, 1) := by decide +kernel
theorem dX0_begin_24 : decode cX0_begin 24 = .ok (.ireturn, 1) := by decide +kernel
theorem dX0_length_0 : decode cX0_length 0 = .ok (.aload_n 1, 1) := by decide +kernel
theorem dX0_length_1 : decode cX0_length 1 = .ok (.iconst 0, 1) := by decide +kernel
theorem dX0_length_2 : decode cX0_length 2 = .ok (.aload_n 0, 1) := by decide +kernel
theorem dX0_length_3 : decode cX0_length 3 = .ok (.invokevirtual 17, 3) := by decide +kernel
theorem dX0_length_6 : decode cX0_length 6 = .ok (.i2l, 1) := by decide +kernel
theorem dX0_length_7 : decode cX0_length 7 = .ok (.lastore, 1) := by decide +kernel
theorem dX0_length_8 : decode cX0_length 8 = .ok (.goto 6, 3) := by decide +kernel
theorem dX0_length_11 : decode cX0_length 11 = .ok (.astore_n 2, 1) := by decide +kernel
theorem dX0_length_12 : decode cX0_length 12 = .ok (.iconst 1, 1) := by decide +kernel
theorem dX0_length_13 : decode cX0_length 13 = .ok (.ireturn, 1) := by decide +kernel
theorem dX0_length_14 : decode cX0_length 14 = .ok (.iconst 0, 1) := by decide +kernel
theorem dX0_length_15 : decode cX0_length 15 = .ok (.ireturn, 1) := by decide +kernel
theorem dX0_generator_0 : decode cX0_generator 0 = .ok (.aload_n 1, 1) := by decide +kernel
theorem dX0_generator_1 : decode cX0_generator 1 = .ok (.iconst 0, 1) := by decide +kernel
theorem dX0_generator_2 : decode cX0_generator 2 = .ok (.aload_n 0, 1) := by decide +kernel
theorem dX0_generator_3 : decode cX0_generator 3 = .ok (.invokevirtual 23, 3) := by decide +kernel
theorem dX0_generator_6 : decode cX0_generator 6 = .ok (.i2l, 1) := by decide +kernel
theorem dX0_generator_7 : decode cX0_generator 7 = .ok (.lastore, 1) := by decide +kernel
theorem dX0_generator_8 : decode cX0_generator 8 = .ok (.goto 6, 3) := by decide +kernel
theorem dX0_generator_11 : decode cX0_generator 11 = .ok (.astore_n 2, 1) := by decide +kernel
theorem dX0_generator_12 : decode cX0_generator 12 = .ok (.iconst 1, 1) := by decide +kernel
theorem dX0_generator_13 : decode cX0_generator 13 = .ok (.ireturn, 1) := by decide +kernel
theorem dX0_generator_14 : decode cX0_generator 14 = .ok (.iconst 0, 1) := by decide +kernel
theorem dX0_generator_15 : decode cX0_generator 15 = .ok (.ireturn, 1) := by decide +kernel
theorem dX0_power_0 : decode cX0_power 0 = .ok (.aload_n 2, 1) := by decide +kernel
theorem dX0_power_1 : decode cX0_power 1 = .ok (.iconst 0, 1) := by decide +kernel
theorem dX0_power_2 : decode cX0_power 2 = .ok (.aload_n 0, 1) := by decide +kernel
theorem dX0_power_3 : decode cX0_power 3 = .ok (.iload_n 1, 1) := by decide +kernel
theorem dX0_power_4 : decode cX0_power 4 = .ok (.invokevirtual 26, 3) := by decide +kernel
theorem dX0_power_7 : decode cX0_power 7 = .ok (.i2l, 1) := by decide +kernel
theorem dX0_power_8 : decode cX0_power 8 = .ok (.lastore, 1) := by decide +kernel
theorem dX0_power_9 : decode cX0_power 9 = .ok (.goto 9, 3) := by decide +kernel
theorem dX0_power_12 : decode cX0_power 12 = .ok (.astore_n 3, 1) := by decide +kernel
theorem dX0_power_13 : decode cX0_power 13 = .ok (.iconst 1, 1) := by decide +kernel
theorem dX0_power_14 : decode cX0_power 14 = .ok (.ireturn, 1) := by decide +kernel
theorem dX0_power_15 : decode cX0_power 15 = .ok (.astore_n 3, 1) := by decide +kernel
theorem dX0_power_16 : decode cX0_power 16 = .ok (.iconst 2, 1) := by decide +kernel
theorem dX0_power_17 : decode cX0_power 17 = .ok (.ireturn, 1) := by decide +kernel
theorem dX0_power_18 : decode cX0_power 18 = .ok (.iconst 0, 1) := by decide +kernel
theorem dX0_power_19 : decode cX0_power 19 = .ok (.ireturn, 1) := by decide +kernel
theorem dX0_log_0 : decode cX0_log 0 = .ok (.aload_n 2, 1) := by decide +kernel
theorem dX0_log_1 : decode cX0_log 1 = .ok (.iconst 0, 1) := by decide +kernel
theorem dX0_log_2 : decode cX0_log 2 = .ok (.aload_n 0, 1) := by decide +kernel
theorem dX0_log_3 : decode cX0_log 3 = .ok (.iload_n 1, 1) := by decide +kernel
theorem dX0_log_4 : decode cX0_log 4 = .ok (.invokevirtual 30, 3) := by decide +kernel
theorem dX0_log_7 : decode cX0_log 7 = .ok (.i2l, 1) := by decide +kernel
theorem dX0_log_8 : decode cX0_log 8 = .ok (.lastore, 1) := by decide +kernel
theorem dX0_log_9 : decode cX0_log 9 = .ok (.goto 9, 3) := by decide +kernel
theorem dX0_log_12 : decode cX0_log 12 = .ok (.astore_n 3, 1) := by decide +kernel
theorem dX0_log_13 : decode cX0_log 13 = .ok (.iconst 1, 1) := by decide +kernel
theorem dX0_log_14 : decode cX0_log 14 = .ok (.ireturn, 1) := by decide +kernel
theorem dX0_log_15 : decode cX0_log 15 = .ok (.astore_n 3, 1) := by decide +kernel
theorem dX0_log_16 : decode cX0_log 16 = .ok (.iconst 2, 1) := by decide +kernel
theorem dX0_log_17 : decode cX0_log 17 = .ok (.ireturn, 1) := by decide +kernel
theorem dX0_log_18 : decode cX0_log 18 = .ok (.iconst 0, 1) := by decide +kernel
theorem dX0_log_19 : decode cX0_log 19 = .ok (.ireturn, 1) := by decide +kernel
theorem dX0_times_0 : decode cX0_times 0 = .ok (.aload_n 3, 1) := by decide +kernel
theorem dX0_times_1 : decode cX0_times 1 = .ok (.iconst 0, 1) := by decide +kernel
theorem dX0_times_2 : decode cX0_times 2 = .ok (.aload_n 0, 1) := by decide +kernel
theorem dX0_times_3 : decode cX0_times 3 = .ok (.iload_n 1, 1) := by decide +kernel
theorem dX0_times_4 : decode cX0_times 4 = .ok (.iload_n 2, 1) := by decide +kernel
theorem dX0_times_5 : decode cX0_times 5 = .ok (.invokevirtual 33, 3) := by decide +kernel
theorem dX0_times_8 : decode cX0_times 8 = .ok (.i2l, 1) := by decide +kernel
theorem dX0_times_9 : decode cX0_times 9 = .ok (.lastore, 1) := by decide +kernel
theorem dX0_times_10 : decode cX0_times 10 = .ok (.goto 11, 3) := by decide +kernel
theorem dX0_times_13 : decode cX0_times 13 = .ok (.astore 4, 2) := by decide +kernel
theorem dX0_times_15 : decode cX0_times 15 = .ok (.iconst 1, 1) := by decide +kernel
theorem dX0_times_16 : decode cX0_times 16 = .ok (.ireturn, 1) := by decide +kernel
theorem dX0_times_17 : decode cX0_times 17 = .ok (.astore 4, 2) := by decide +kernel
theorem dX0_times_19 : decode cX0_times 19 = .ok (.iconst 2, 1) := by decide +kernel
theorem dX0_times_20 : decode cX0_times 20 = .ok (.ireturn, 1) := by decide +kernel
theorem dX0_times_21 : decode cX0_times 21 = .ok (.iconst 0, 1) := by decide +kernel
theorem dX0_times_22 : decode cX0_times 22 = .ok (.ireturn, 1) := by decide +kernel
theorem dX0_put_0 : decode cX0_put 0 = .ok (.aload_n 0, 1) := by decide +kernel
theorem dX0_put_1 : decode cX0_put 1 = .ok (.iload_n 1, 1) := by decide +kernel
theorem dX0_put_2 : decode cX0_put 2 = .ok (.iload_n 2, 1) := by decide +kernel
theorem dX0_put_3 : decode cX0_put 3 = .ok (.invokevirtual 37, 3) := by decide +kernel
theorem dX0_put_6 : decode cX0_put 6 = .ok (.goto 12, 3) := by decide +kernel
theorem dX0_put_9 : decode cX0_put 9 = .ok (.astore_n 3, 1) := by decide +kernel
theorem dX0_put_10 : decode cX0_put 10 = .ok (.iconst 1, 1) := by decide +kernel
theorem dX0_put_11 : decode cX0_put 11 = .ok (.ireturn, 1) := by decide +kernel
theorem dX0_put_12 : decode cX0_put 12 = .ok (.astore_n 3, 1) := by decide +kernel
theorem dX0_put_13 : decode cX0_put 13 = .ok (.iconst 2, 1) := by decide +kernel
theorem dX0_put_14 : decode cX0_put 14 = .ok (.ireturn, 1) := by decide +kernel
theorem dX0_put_15 : decode cX0_put 15 = .ok (.astore_n 3, 1) := by decide +kernel
theorem dX0_put_16 : decode cX0_put 16 = .ok (.iconst 3, 1) := by decide +kernel
theorem dX0_put_17 : decode cX0_put 17 = .ok (.ireturn, 1) := by decide +kernel
theorem dX0_put_18 : decode cX0_put 18 = .ok (.iconst 0, 1) := by decide +kernel
theorem dX0_put_19 : decode cX0_put 19 = .ok (.ireturn, 1) := by decide +kernel
theorem dX0_get_0 : decode cX0_get 0 = .ok (.aload_n 2, 1) := by decide +kernel
theorem dX0_get_1 : decode cX0_get 1 = .ok (.iconst 0, 1) := by decide +kernel
theorem dX0_get_2 : decode cX0_get 2 = .ok (.aload_n 0, 1) := by decide +kernel
theorem dX0_get_3 : decode cX0_get 3 = .ok (.iload_n 1, 1) := by decide +kernel
theorem dX0_get_4 : decode cX0_get 4 = .ok (.invokevirtual 43, 3) := by decide +kernel
theorem dX0_get_7 : decode cX0_get 7 = .ok (.i2l, 1) := by decide +kernel
theorem dX0_get_8 : decode cX0_get 8 = .ok (.lastore, 1) := by decide +kernel
theorem dX0_get_9 : decode cX0_get 9 = .ok (.goto 9, 3) := by decide +kernel
theorem dX0_get_12 : decode cX0_get 12 = .ok (.astore_n 3, 1) := by decide +kernel
theorem dX0_get_13 : decode cX0_get 13 = .ok (.iconst 1, 1) := by decide +kernel
theorem dX0_get_14 : decode cX0_get 14 = .ok (.ireturn, 1) := by decide +kernel
theorem dX0_get_15 : decode cX0_get 15 = .ok (.astore_n 3, 1) := by decide +kernel
theorem dX0_get_16 : decode cX0_get 16 = .ok (.iconst 2, 1) := by decide +kernel
theorem dX0_get_17 : decode cX0_get 17 = .ok (.ireturn, 1) := by decide +kernel
theorem dX0_get_18 : decode cX0_get 18 = .ok (.iconst 0, 1) := by decide +kernel
theorem dX0_get_19 : decode cX0_get 19 = .ok (.ireturn, 1) := by decide +kernel
theorem dX0_encode_0 : decode cX0_encode 0 = .ok (.aload_n 1, 1) := by decide +kernel
theorem dX0_encode_1 : decode cX0_encode 1 = .ok (.iconst 0, 1) := by decide +kernel
theorem dX0_encode_2 : decode cX0_encode 2 = .ok (.aload_n 0, 1) := by decide +kernel
theorem dX0_encode_3 : decode cX0_encode 3 = .ok (.invokevirtual 46, 3) := by decide +kernel
theorem dX0_encode_6 : decode cX0_encode 6 = .ok (.i2l, 1) := by decide +kernel
theorem dX0_encode_7 : decode cX0_encode 7 = .ok (.lastore, 1) := by decide +kernel
theorem dX0_encode_8 : decode cX0_encode 8 = .ok (.goto 6, 3) := by decide +kernel
theorem dX0_encode_11 : decode cX0_encode 11 = .ok (.astore_n 2, 1) := by decide +kernel
theorem dX0_encode_12 : decode cX0_encode 12 = .ok (.iconst 1, 1) := by decide +kernel
theorem dX0_encode_13 : decode cX0_encode 13 = .ok (.ireturn, 1) := by decide +kernel
theorem dX0_encode_14 : decode cX0_encode 14 = .ok (.iconst 0, 1) := by decide +kernel
theorem dX0_encode_15 : decode cX0_encode 15 = .ok (.ireturn, 1) := by decide +kernel
theorem dX0_bit_0 : decode cX0_bit 0 = .ok (.aload_n 2, 1) := by decide +kernel
theorem dX0_bit_1 : decode cX0_bit 1 = .ok (.iconst 0, 1) := by decide +kernel
theorem dX0_bit_2 : decode cX0_bit 2 = .ok (.aload_n 0, 1) := by decide +kernel
theorem dX0_bit_3 : decode cX0_bit 3 = .ok (.iload_n 1, 1) := by decide +kernel
theorem dX0_bit_4 : decode cX0_bit 4 = .ok (.invokevirtual 49, 3) := by decide +kernel
theorem dX0_bit_7 : decode cX0_bit 7 = .ok (.i2l, 1) := by decide +kernel
theorem dX0_bit_8 : decode cX0_bit 8 = .ok (.lastore, 1) := by decide +kernel
theorem dX0_bit_9 : decode cX0_bit 9 = .ok (.goto 9, 3) := by decide +kernel
theorem dX0_bit_12 : decode cX0_bit 12 = .ok (.astore_n 3, 1) := by decide +kernel
theorem dX0_bit_13 : decode cX0_bit 13 = .ok (.iconst 1, 1) := by decide +kernel
theorem dX0_bit_14 : decode cX0_bit 14 = .ok (.ireturn, 1) := by decide +kernel
theorem dX0_bit_15 : decode cX0_bit 15 = .ok (.astore_n 3, 1) := by decide +kernel
theorem dX0_bit_16 : decode cX0_bit 16 = .ok (.iconst 2, 1) := by decide +kernel
theorem dX0_bit_17 : decode cX0_bit 17 = .ok (.ireturn, 1) := by decide +kernel
theorem dX0_bit_18 : decode cX0_bit 18 = .ok (.iconst 0, 1) := by decide +kernel
theorem dX0_bit_19 : decode cX0_bit 19 = .ok (.ireturn, 1) := by decide +kernel
theorem dX0_burst_0 : decode cX0_burst 0 = .ok (.aload_n 0, 1) := by decide +kernel
theorem dX0_burst_1 : decode cX0_burst 1 = .ok (.iload_n 1, 1) := by decide +kernel
theorem dX0_burst_2 : decode cX0_burst 2 = .ok (.iload_n 2, 1) := by decide +kernel
theorem dX0_burst_3 : decode cX0_burst 3 = .ok (.invokevirtual 52, 3) := by decide +kernel
theorem dX0_burst_6 : decode cX0_burst 6 = .ok (.goto 12, 3) := by decide +kernel
theorem dX0_burst_9 : decode cX0_burst 9 = .ok (.astore_n 3, 1) := by decide +kernel
theorem dX0_burst_10 : decode cX0_burst 10 = .ok (.iconst 1, 1) := by decide +kernel
theorem dX0_burst_11 : decode cX0_burst 11 = .ok (.ireturn, 1) := by decide +kernel
theorem dX0_burst_12 : decode cX0_burst 12 = .ok (.astore_n 3, 1) := by decide +kernel
theorem dX0_burst_13 : decode cX0_burst 13 = .ok (.iconst 2, 1) := by decide +kernel
theorem dX0_burst_14 : decode cX0_burst 14 = .ok (.ireturn, 1) := by decide +kernel
theorem dX0_burst_15 : decode cX0_burst 15 = .ok (.astore_n 3, 1) := by decide +kernel
theorem dX0_burst_16 : decode cX0_burst 16 = .ok (.iconst 3, 1) := by decide +kernel
theorem dX0_burst_17 : decode cX0_burst 17 = .ok (.ireturn, 1) := by decide +kernel
theorem dX0_burst_18 : decode cX0_burst 18 = .ok (.iconst 0, 1) := by decide +kernel
theorem dX0_burst_19 : decode cX0_burst 19 = .ok (.ireturn, 1) := by decide +kernel
theorem dX0_noise_0 : decode cX0_noise 0 = .ok (.aload_n 3, 1) := by decide +kernel
theorem dX0_noise_1 : decode cX0_noise 1 = .ok (.iconst 0, 1) := by decide +kernel
theorem dX0_noise_2 : decode cX0_noise 2 = .ok (.aload_n 0, 1) := by decide +kernel
theorem dX0_noise_3 : decode cX0_noise 3 = .ok (.iload_n 1, 1) := by decide +kernel
theorem dX0_noise_4 : decode cX0_noise 4 = .ok (.iload_n 2, 1) := by decide +kernel
theorem dX0_noise_5 : decode cX0_noise 5 = .ok (.invokevirtual 55, 3) := by decide +kernel
theorem dX0_noise_8 : decode cX0_noise 8 = .ok (.i2l, 1) := by decide +kernel
theorem dX0_noise_9 : decode cX0_noise 9 = .ok (.lastore, 1) := by decide +kernel
theorem dX0_noise_10 : decode cX0_noise 10 = .ok (.goto 11, 3) := by decide +kernel
theorem dX0_noise_13 : decode cX0_noise 13 = .ok (.astore 4, 2) := by decide +kernel
theorem dX0_noise_15 : decode cX0_noise 15 = .ok (.iconst 1, 1) := by decide +kernel
theorem dX0_noise_16 : decode cX0_noise 16 = .ok (.ireturn, 1) := by decide +kernel
theorem dX0_noise_17 : decode cX0_noise 17 = .ok (.astore 4, 2) := by decide +kernel
theorem dX0_noise_19 : decode cX0_noise 19 = .ok (.iconst 2, 1) := by decide +kernel
theorem dX0_noise_20 : decode cX0_noise 20 = .ok (.ireturn, 1) := by decide +kernel
theorem dX0_noise_21 : decode cX0_noise 21 = .ok (.iconst 0, 1) := by decide +kernel
theorem dX0_noise_22 : decode cX0_noise 22 = .ok (.ireturn, 1) := by decide +kernel
theorem dX0_syndrome_0 : decode cX0_syndrome 0 = .ok (.aload_n 3, 1) := by decide +kernel
theorem dX0_syndrome_1 : decode cX0_syndrome 1 = .ok (.iconst 0, 1) := by decide +kernel
theorem dX0_syndrome_2 : decode cX0_syndrome 2 = .ok (.aload_n 0, 1) := by decide +kernel
theorem dX0_syndrome_3 : decode cX0_syndrome 3 = .ok (.iload_n 1, 1) := by decide +kernel
theorem dX0_syndrome_4 : decode cX0_syndrome 4 = .ok (.iload_n 2, 1) := by decide +kernel
theorem dX0_syndrome_5 : decode cX0_syndrome 5 = .ok (.invokevirtual 58, 3) := by decide +kernel
theorem dX0_syndrome_8 : decode cX0_syndrome 8 = .ok (.i2l, 1) := by decide +kernel
theorem dX0_syndrome_9 : decode cX0_syndrome 9 = .ok (.lastore, 1) := by decide +kernel
theorem dX0_syndrome_10 : decode cX0_syndrome 10 = .ok (.goto 11, 3) := by decide +kernel
theorem dX0_syndrome_13 : decode cX0_syndrome 13 = .ok (.astore 4, 2) := by decide +kernel
theorem dX0_syndrome_15 : decode cX0_syndrome 15 = .ok (.iconst 1, 1) := by decide +kernel
theorem dX0_syndrome_16 : decode cX0_syndrome 16 = .ok (.ireturn, 1) := by decide +kernel
theorem dX0_syndrome_17 : decode cX0_syndrome 17 = .ok (.astore 4, 2) := by decide +kernel
theorem dX0_syndrome_19 : decode cX0_syndrome 19 = .ok (.iconst 2, 1) := by decide +kernel
theorem dX0_syndrome_20 : decode cX0_syndrome 20 = .ok (.ireturn, 1) := by decide +kernel
theorem dX0_syndrome_21 : decode cX0_syndrome 21 = .ok (.iconst 0, 1) := by decide +kernel
theorem dX0_syndrome_22 : decode cX0_syndrome 22 = .ok (.ireturn, 1) := by decide +kernel
theorem dX0_decode_0 : decode cX0_decode 0 = .ok (.aload_n 2, 1) := by decide +kernel
theorem dX0_decode_1 : decode cX0_decode 1 = .ok (.iconst 0, 1) := by decide +kernel
theorem dX0_decode_2 : decode cX0_decode 2 = .ok (.aload_n 0, 1) := by decide +kernel
theorem dX0_decode_3 : decode cX0_decode 3 = .ok (.iload_n 1, 1) := by decide +kernel
theorem dX0_decode_4 : decode cX0_decode 4 = .ok (.invokevirtual 61, 3) := by decide +kernel
theorem dX0_decode_7 : decode cX0_decode 7 = .ok (.i2l, 1) := by decide +kernel
theorem dX0_decode_8 : decode cX0_decode 8 = .ok (.lastore, 1) := by decide +kernel
theorem dX0_decode_9 : decode cX0_decode 9 = .ok (.goto 12, 3) := by decide +kernel
theorem dX0_decode_12 : decode cX0_decode 12 = .ok (.astore_n 3, 1) := by decide +kernel
theorem dX0_decode_13 : decode cX0_decode 13 = .ok (.iconst 1, 1) := by decide +kernel
theorem dX0_decode_14 : decode cX0_decode 14 = .ok (.ireturn, 1) := by decide +kernel
theorem dX0_decode_15 : decode cX0_decode 15 = .ok (.astore_n 3, 1) := by decide +kernel
theorem dX0_decode_16 : decode cX0_decode 16 = .ok (.iconst 2, 1) := by decide +kernel
theorem dX0_decode_17 : decode cX0_decode 17 = .ok (.ireturn, 1) := by decide +kernel
theorem dX0_decode_18 : decode cX0_decode 18 = .ok (.astore_n 3, 1) := by decide +kernel
theorem dX0_decode_19 : decode cX0_decode 19 = .ok (.iconst 3, 1) := by decide +kernel
theorem dX0_decode_20 : decode cX0_decode 20 = .ok (.ireturn, 1) := by decide +kernel
theorem dX0_decode_21 : decode cX0_decode 21 = .ok (.iconst 0, 1) := by decide +kernel
theorem dX0_decode_22 : decode cX0_decode 22 = .ok (.ireturn, 1) := by decide +kernel
theorem dX0_save_0 : decode cX0_save 0 = .ok (.aload_n 0, 1) := by decide +kernel
theorem dX0_save_1 : decode cX0_save 1 = .ok (.iload_n 1, 1) := by decide +kernel
theorem dX0_save_2 : decode cX0_save 2 = .ok (.invokevirtual 64, 3) := by decide +kernel
theorem dX0_save_5 : decode cX0_save 5 = .ok (.goto 9, 3) := by decide +kernel
theorem dX0_save_8 : decode cX0_save 8 = .ok (.astore_n 2, 1) := by decide +kernel
theorem dX0_save_9 : decode cX0_save 9 = .ok (.iconst 1, 1) := by decide +kernel
theorem dX0_save_10 : decode cX0_save 10 = .ok (.ireturn, 1) := by decide +kernel
theorem dX0_save_11 : decode cX0_save 11 = .ok (.astore_n 2, 1) := by decide +kernel
theorem dX0_save_12 : decode cX0_save 12 = .ok (.iconst 2, 1) := by decide +kernel
theorem dX0_save_13 : decode cX0_save 13 = .ok (.ireturn, 1) := by decide +kernel
theorem dX0_save_14 : decode cX0_save 14 = .ok (.iconst 0, 1) := by decide +kernel
theorem dX0_save_15 : decode cX0_save 15 = .ok (.ireturn, 1) := by decide +kernel
theorem dX0_load_0 : decode cX0_load 0 = .ok (.aload_n 2, 1) := by decide +kernel
theorem dX0_load_1 : decode cX0_load 1 = .ok (.iconst 0, 1) := by decide +kernel
theorem dX0_load_2 : decode cX0_load 2 = .ok (.aload_n 0, 1) := by decide +kernel
theorem dX0_load_3 : decode cX0_load 3 = .ok (.iload_n 1, 1) := by decide +kernel
theorem dX0_load_4 : decode cX0_load 4 = .ok (.invokevirtual 68, 3) := by decide +kernel
theorem dX0_load_7 : decode cX0_load 7 = .ok (.i2l, 1) := by decide +kernel
theorem dX0_load_8 : decode cX0_load 8 = .ok (.lastore, 1) := by decide +kernel
theorem dX0_load_9 : decode cX0_load 9 = .ok (.goto 12, 3) := by decide +kernel
theorem dX0_load_12 : decode cX0_load 12 = .ok (.astore_n 3, 1) := by decide +kernel
theorem dX0_load_13 : decode cX0_load 13 = .ok (.iconst 1, 1) := by decide +kernel
theorem dX0_load_14 : decode cX0_load 14 = .ok (.ireturn, 1) := by decide +kernel
theorem dX0_load_15 : decode cX0_load 15 = .ok (.astore_n 3, 1) := by decide +kernel
theorem dX0_load_16 : decode cX0_load 16 = .ok (.iconst 2, 1) := by decide +kernel
theorem dX0_load_17 : decode cX0_load 17 = .ok (.ireturn, 1) := by decide +kernel
theorem dX0_load_18 : decode cX0_load 18 = .ok (.astore_n 3, 1) := by decide +kernel
theorem dX0_load_19 : decode cX0_load 19 = .ok (.iconst 3, 1) := by decide +kernel
theorem dX0_load_20 : decode cX0_load 20 = .ok (.ireturn, 1) := by decide +kernel
theorem dX0_load_21 : decode cX0_load 21 = .ok (.iconst 0, 1) := by decide +kernel
theorem dX0_load_22 : decode cX0_load 22 = .ok (.ireturn, 1) := by decide +kernel
theorem dL_law_0 : decode cL_law 0 = .ok (.new 8, 3) := by decide +kernel
theorem dL_law_3 : decode cL_law 3 = .ok (.dup, 1) := by decide +kernel
theorem dL_law_4 : decode cL_law 4 = .ok (.invokespecial 71, 3) := by decide +kernel
theorem dL_law_7 : decode cL_law 7 = .ok (.astore_n 1, 1) := by decide +kernel
theorem dL_law_8 : decode cL_law 8 = .ok (.new 72, 3) := by decide +kernel
theorem dL_law_11 : decode cL_law 11 = .ok (.dup, 1) := by decide +kernel
theorem dL_law_12 : decode cL_law 12 = .ok (.invokespecial 74, 3) := by decide +kernel
theorem dL_law_15 : decode cL_law 15 = .ok (.astore_n 2, 1) := by decide +kernel
theorem dL_law_16 : decode cL_law 16 = .ok (.iconst 1, 1) := by decide +kernel
theorem dL_law_17 : decode cL_law 17 = .ok (.newarray .long, 2) := by decide +kernel
theorem dL_law_19 : decode cL_law 19 = .ok (.astore_n 3, 1) := by decide +kernel
theorem dL_law_20 : decode cL_law 20 = .ok (.iconst 0, 1) := by decide +kernel
theorem dL_law_21 : decode cL_law 21 = .ok (.istore 4, 2) := by decide +kernel
theorem dL_law_23 : decode cL_law 23 = .ok (.iload 4, 2) := by decide +kernel
theorem dL_law_25 : decode cL_law 25 = .ok (.aload_n 0, 1) := by decide +kernel
theorem dL_law_26 : decode cL_law 26 = .ok (.arraylength, 1) := by decide +kernel
theorem dL_law_27 : decode cL_law 27 = .ok (.iconst 4, 1) := by decide +kernel
theorem dL_law_28 : decode cL_law 28 = .ok (.isub, 1) := by decide +kernel
theorem dL_law_29 : decode cL_law 29 = .ok (.if_icmp .gt 977, 3) := by decide +kernel
theorem dL_law_32 : decode cL_law 32 = .ok (.aload_n 0, 1) := by decide +kernel
theorem dL_law_33 : decode cL_law 33 = .ok (.iload 4, 2) := by decide +kernel
theorem dL_law_35 : decode cL_law 35 = .ok (.iaload, 1) := by decide +kernel
theorem dL_law_36 : decode cL_law 36 = .ok (.bipush 15, 2) := by decide +kernel
theorem dL_law_38 : decode cL_law 38 = .ok (.iand, 1) := by decide +kernel
theorem dL_law_39 : decode cL_law 39 = .ok (.tableswitch 961 0 15 #[77, 157, 201, 245, 301, 357, 425, 473, 529, 573, 629, 677, 745, 813, 869, 905], 77) := by decide +kernel
theorem dL_law_116 : decode cL_law 116 = .ok (.aload_n 1, 1) := by decide +kernel
theorem dL_law_117 : decode cL_law 117 = .ok (.aload_n 0, 1) := by decide +kernel
theorem dL_law_118 : decode cL_law 118 = .ok (.iload 4, 2) := by decide +kernel
theorem dL_law_120 : decode cL_law 120 = .ok (.iconst 1, 1) := by decide +kernel
theorem dL_law_121 : decode cL_law 121 = .ok (.iadd, 1) := by decide +kernel
theorem dL_law_122 : decode cL_law 122 = .ok (.iaload, 1) := by decide +kernel
theorem dL_law_123 : decode cL_law 123 = .ok (.aload_n 0, 1) := by decide +kernel
theorem dL_law_124 : decode cL_law 124 = .ok (.iload 4, 2) := by decide +kernel
theorem dL_law_126 : decode cL_law 126 = .ok (.iconst 2, 1) := by decide +kernel
theorem dL_law_127 : decode cL_law 127 = .ok (.iadd, 1) := by decide +kernel
theorem dL_law_128 : decode cL_law 128 = .ok (.iaload, 1) := by decide +kernel
theorem dL_law_129 : decode cL_law 129 = .ok (.aload_n 0, 1) := by decide +kernel
theorem dL_law_130 : decode cL_law 130 = .ok (.iload 4, 2) := by decide +kernel
theorem dL_law_132 : decode cL_law 132 = .ok (.iconst 3, 1) := by decide +kernel
theorem dL_law_133 : decode cL_law 133 = .ok (.iadd, 1) := by decide +kernel
theorem dL_law_134 : decode cL_law 134 = .ok (.iaload, 1) := by decide +kernel
theorem dL_law_135 : decode cL_law 135 = .ok (.aload_n 3, 1) := by decide +kernel
theorem dL_law_136 : decode cL_law 136 = .ok (.invokestatic 75, 3) := by decide +kernel
theorem dL_law_139 : decode cL_law 139 = .ok (.istore 5, 2) := by decide +kernel
theorem dL_law_141 : decode cL_law 141 = .ok (.aload_n 2, 1) := by decide +kernel
theorem dL_law_142 : decode cL_law 142 = .ok (.aload_n 0, 1) := by decide +kernel
theorem dL_law_143 : decode cL_law 143 = .ok (.iload 4, 2) := by decide +kernel
theorem dL_law_145 : decode cL_law 145 = .ok (.iconst 1, 1) := by decide +kernel
theorem dL_law_146 : decode cL_law 146 = .ok (.iadd, 1) := by decide +kernel
theorem dL_law_147 : decode cL_law 147 = .ok (.iaload, 1) := by decide +kernel
theorem dL_law_148 : decode cL_law 148 = .ok (.aload_n 0, 1) := by decide +kernel
theorem dL_law_149 : decode cL_law 149 = .ok (.iload 4, 2) := by decide +kernel
theorem dL_law_151 : decode cL_law 151 = .ok (.iconst 2, 1) := by decide +kernel
theorem dL_law_152 : decode cL_law 152 = .ok (.iadd, 1) := by decide +kernel
theorem dL_law_153 : decode cL_law 153 = .ok (.iaload, 1) := by decide +kernel
theorem dL_law_154 : decode cL_law 154 = .ok (.aload_n 0, 1) := by decide +kernel
theorem dL_law_155 : decode cL_law 155 = .ok (.iload 4, 2) := by decide +kernel
theorem dL_law_157 : decode cL_law 157 = .ok (.iconst 3, 1) := by decide +kernel
theorem dL_law_158 : decode cL_law 158 = .ok (.iadd, 1) := by decide +kernel
theorem dL_law_159 : decode cL_law 159 = .ok (.iaload, 1) := by decide +kernel
theorem dL_law_160 : decode cL_law 160 = .ok (.invokevirtual 80, 3) := by decide +kernel
theorem dL_law_163 : decode cL_law 163 = .ok (.istore 6, 2) := by decide +kernel
theorem dL_law_165 : decode cL_law 165 = .ok (.aload_n 2, 1) := by decide +kernel
theorem dL_law_166 : decode cL_law 166 = .ok (.invokevirtual 81, 3) := by decide +kernel
theorem dL_law_169 : decode cL_law 169 = .ok (.iload 5, 2) := by decide +kernel
theorem dL_law_171 : decode cL_law 171 = .ok (.if_icmp .eq 5, 3) := by decide +kernel
theorem dL_law_174 : decode cL_law 174 = .ok (.iconst 0, 1) := by decide +kernel
theorem dL_law_175 : decode cL_law 175 = .ok (.ireturn, 1) := by decide +kernel
theorem dL_law_176 : decode cL_law 176 = .ok (.iload 5, 2) := by decide +kernel
theorem dL_law_178 : decode cL_law 178 = .ok (.ifCond .ne 15, 3) := by decide +kernel
theorem dL_law_181 : decode cL_law 181 = .ok (.aload_n 3, 1) := by decide +kernel
theorem dL_law_182 : decode cL_law 182 = .ok (.iconst 0, 1) := by decide +kernel
theorem dL_law_183 : decode cL_law 183 = .ok (.laload, 1) := by decide +kernel
theorem dL_law_184 : decode cL_law 184 = .ok (.iload 6, 2) := by decide +kernel
theorem dL_law_186 : decode cL_law 186 = .ok (.i2l, 1) := by decide +kernel
theorem dL_law_187 : decode cL_law 187 = .ok (.lcmp, 1) := by decide +kernel
theorem dL_law_188 : decode cL_law 188 = .ok (.ifCond .eq 5, 3) := by decide +kernel
theorem dL_law_191 : decode cL_law 191 = .ok (.iconst 0, 1) := by decide +kernel
theorem dL_law_192 : decode cL_law 192 = .ok (.ireturn, 1) := by decide +kernel
theorem dL_law_193 : decode cL_law 193 = .ok (.goto 807, 3) := by decide +kernel
theorem dL_law_196 : decode cL_law 196 = .ok (.aload_n 1, 1) := by decide +kernel
theorem dL_law_197 : decode cL_law 197 = .ok (.aload_n 3, 1) := by decide +kernel
theorem dL_law_198 : decode cL_law 198 = .ok (.invokestatic 84, 3) := by decide +kernel
theorem dL_law_201 : decode cL_law 201 = .ok (.istore 5, 2) := by decide +kernel
theorem dL_law_203 : decode cL_law 203 = .ok (.aload_n 2, 1) := by decide +kernel
theorem dL_law_204 : decode cL_law 204 = .ok (.invokevirtual 87, 3) := by decide +kernel
theorem dL_law_207 : decode cL_law 207 = .ok (.istore 6, 2) := by decide +kernel
theorem dL_law_209 : decode cL_law 209 = .ok (.aload_n 2, 1) := by decide +kernel
theorem dL_law_210 : decode cL_law 210 = .ok (.invokevirtual 81, 3) := by decide +kernel
theorem dL_law_213 : decode cL_law 213 = .ok (.iload 5, 2) := by decide +kernel
theorem dL_law_215 : decode cL_law 215 = .ok (.if_icmp .eq 5, 3) := by decide +kernel
theorem dL_law_218 : decode cL_law 218 = .ok (.iconst 0, 1) := by decide +kernel
theorem dL_law_219 : decode cL_law 219 = .ok (.ireturn, 1) := by decide +kernel
theorem dL_law_220 : decode cL_law 220 = .ok (.iload 5, 2) := by decide +kernel
theorem dL_law_222 : decode cL_law 222 = .ok (.ifCond .ne 15, 3) := by decide +kernel
theorem dL_law_225 : decode cL_law 225 = .ok (.aload_n 3, 1) := by decide +kernel
theorem dL_law_226 : decode cL_law 226 = .ok (.iconst 0, 1) := by decide +kernel
theorem dL_law_227 : decode cL_law 227 = .ok (.laload, 1) := by decide +kernel
theorem dL_law_228 : decode cL_law 228 = .ok (.iload 6, 2) := by decide +kernel
theorem dL_law_230 : decode cL_law 230 = .ok (.i2l, 1) := by decide +kernel
theorem dL_law_231 : decode cL_law 231 = .ok (.lcmp, 1) := by decide +kernel
theorem dL_law_232 : decode cL_law 232 = .ok (.ifCond .eq 5, 3) := by decide +kernel
theorem dL_law_235 : decode cL_law 235 = .ok (.iconst 0, 1) := by decide +kernel
theorem dL_law_236 : decode cL_law 236 = .ok (.ireturn, 1) := by decide +kernel
theorem dL_law_237 : decode cL_law 237 = .ok (.goto 763, 3) := by decide +kernel
theorem dL_law_240 : decode cL_law 240 = .ok (.aload_n 1, 1) := by decide +kernel
theorem dL_law_241 : decode cL_law 241 = .ok (.aload_n 3, 1) := by decide +kernel
theorem dL_law_242 : decode cL_law 242 = .ok (.invokestatic 88, 3) := by decide +kernel
theorem dL_law_245 : decode cL_law 245 = .ok (.istore 5, 2) := by decide +kernel
theorem dL_law_247 : decode cL_law 247 = .ok (.aload_n 2, 1) := by decide +kernel
theorem dL_law_248 : decode cL_law 248 = .ok (.invokevirtual 90, 3) := by decide +kernel
theorem dL_law_251 : decode cL_law 251 = .ok (.istore 6, 2) := by decide +kernel
theorem dL_law_253 : decode cL_law 253 = .ok (.aload_n 2, 1) := by decide +kernel
theorem dL_law_254 : decode cL_law 254 = .ok (.invokevirtual 81, 3) := by decide +kernel
theorem dL_law_257 : decode cL_law 257 = .ok (.iload 5, 2) := by decide +kernel
theorem dL_law_259 : decode cL_law 259 = .ok (.if_icmp .eq 5, 3) := by decide +kernel
theorem dL_law_262 : decode cL_law 262 = .ok (.iconst 0, 1) := by decide +kernel
theorem dL_law_263 : decode cL_law 263 = .ok (.ireturn, 1) := by decide +kernel
theorem dL_law_264 : decode cL_law 264 = .ok (.iload 5, 2) := by decide +kernel
theorem dL_law_266 : decode cL_law 266 = .ok (.ifCond .ne 15, 3) := by decide +kernel
theorem dL_law_269 : decode cL_law 269 = .ok (.aload_n 3, 1) := by decide +kernel
theorem dL_law_270 : decode cL_law 270 = .ok (.iconst 0, 1) := by decide +kernel
theorem dL_law_271 : decode cL_law 271 = .ok (.laload, 1) := by decide +kernel
theorem dL_law_272 : decode cL_law 272 = .ok (.iload 6, 2) := by decide +kernel
theorem dL_law_274 : decode cL_law 274 = .ok (.i2l, 1) := by decide +kernel
theorem dL_law_275 : decode cL_law 275 = .ok (.lcmp, 1) := by decide +kernel
theorem dL_law_276 : decode cL_law 276 = .ok (.ifCond .eq 5, 3) := by decide +kernel
theorem dL_law_279 : decode cL_law 279 = .ok (.iconst 0, 1) := by decide +kernel
theorem dL_law_280 : decode cL_law 280 = .ok (.ireturn, 1) := by decide +kernel
theorem dL_law_281 : decode cL_law 281 = .ok (.goto 719, 3) := by decide +kernel
theorem dL_law_284 : decode cL_law 284 = .ok (.aload_n 1, 1) := by decide +kernel
theorem dL_law_285 : decode cL_law 285 = .ok (.aload_n 0, 1) := by decide +kernel
theorem dL_law_286 : decode cL_law 286 = .ok (.iload 4, 2) := by decide +kernel
theorem dL_law_288 : decode cL_law 288 = .ok (.iconst 1, 1) := by decide +kernel
theorem dL_law_289 : decode cL_law 289 = .ok (.iadd, 1) := by decide +kernel
theorem dL_law_290 : decode cL_law 290 = .ok (.iaload, 1) := by decide +kernel
theorem dL_law_291 : decode cL_law 291 = .ok (.aload_n 3, 1) := by decide +kernel
theorem dL_law_292 : decode cL_law 292 = .ok (.invokestatic 91, 3) := by decide +kernel
theorem dL_law_295 : decode cL_law 295 = .ok (.istore 5, 2) := by decide +kernel
theorem dL_law_297 : decode cL_law 297 = .ok (.aload_n 2, 1) := by decide +kernel
theorem dL_law_298 : decode cL_law 298 = .ok (.aload_n 0, 1) := by decide +kernel
theorem dL_law_299 : decode cL_law 299 = .ok (.iload 4, 2) := by decide +kernel
theorem dL_law_301 : decode cL_law 301 = .ok (.iconst 1, 1) := by decide +kernel
theorem dL_law_302 : decode cL_law 302 = .ok (.iadd, 1) := by decide +kernel
theorem dL_law_303 : decode cL_law 303 = .ok (.iaload, 1) := by decide +kernel
theorem dL_law_304 : decode cL_law 304 = .ok (.invokevirtual 94, 3) := by decide +kernel
theorem dL_law_307 : decode cL_law 307 = .ok (.istore 6, 2) := by decide +kernel
theorem dL_law_309 : decode cL_law 309 = .ok (.aload_n 2, 1) := by decide +kernel
theorem dL_law_310 : decode cL_law 310 = .ok (.invokevirtual 81, 3) := by decide +kernel
theorem dL_law_313 : decode cL_law 313 = .ok (.iload 5, 2) := by decide +kernel
theorem dL_law_315 : decode cL_law 315 = .ok (.if_icmp .eq 5, 3) := by decide +kernel
theorem dL_law_318 : decode cL_law 318 = .ok (.iconst 0, 1) := by decide +kernel
theorem dL_law_319 : decode cL_law 319 = .ok (.ireturn, 1) := by decide +kernel
theorem dL_law_320 : decode cL_law 320 = .ok (.iload 5, 2) := by decide +kernel
theorem dL_law_322 : decode cL_law 322 = .ok (.ifCond .ne 15, 3) := by decide +kernel
theorem dL_law_325 : decode cL_law 325 = .ok (.aload_n 3, 1) := by decide +kernel
theorem dL_law_326 : decode cL_law 326 = .ok (.iconst 0, 1) := by decide +kernel
theorem dL_law_327 : decode cL_law 327 = .ok (.laload, 1) := by decide +kernel
theorem dL_law_328 : decode cL_law 328 = .ok (.iload 6, 2) := by decide +kernel
theorem dL_law_330 : decode cL_law 330 = .ok (.i2l, 1) := by decide +kernel
theorem dL_law_331 : decode cL_law 331 = .ok (.lcmp, 1) := by decide +kernel
theorem dL_law_332 : decode cL_law 332 = .ok (.ifCond .eq 5, 3) := by decide +kernel
theorem dL_law_335 : decode cL_law 335 = .ok (.iconst 0, 1) := by decide +kernel
theorem dL_law_336 : decode cL_law 336 = .ok (.ireturn, 1) := by decide +kernel
theorem dL_law_337 : decode cL_law 337 = .ok (.goto 663, 3) := by decide +kernel
theorem dL_law_340 : decode cL_law 340 = .ok (.aload_n 1, 1) := by decide +kernel
theorem dL_law_341 : decode cL_law 341 = .ok (.aload_n 0, 1) := by decide +kernel
theorem dL_law_342 : decode cL_law 342 = .ok (.iload 4, 2) := by decide +kernel
theorem dL_law_344 : decode cL_law 344 = .ok (.iconst 1, 1) := by decide +kernel
theorem dL_law_345 : decode cL_law 345 = .ok (.iadd, 1) := by decide +kernel
theorem dL_law_346 : decode cL_law 346 = .ok (.iaload, 1) := by decide +kernel
theorem dL_law_347 : decode cL_law 347 = .ok (.aload_n 3, 1) := by decide +kernel
theorem dL_law_348 : decode cL_law 348 = .ok (.invokestatic 95, 3) := by decide +kernel
theorem dL_law_351 : decode cL_law 351 = .ok (.istore 5, 2) := by decide +kernel
theorem dL_law_353 : decode cL_law 353 = .ok (.aload_n 2, 1) := by decide +kernel
theorem dL_law_354 : decode cL_law 354 = .ok (.aload_n 0, 1) := by decide +kernel
theorem dL_law_355 : decode cL_law 355 = .ok (.iload 4, 2) := by decide +kernel
theorem dL_law_357 : decode cL_law 357 = .ok (.iconst 1, 1) := by decide +kernel
theorem dL_law_358 : decode cL_law 358 = .ok (.iadd, 1) := by decide +kernel
theorem dL_law_359 : decode cL_law 359 = .ok (.iaload, 1) := by decide +kernel
theorem dL_law_360 : decode cL_law 360 = .ok (.invokevirtual 97, 3) := by decide +kernel
theorem dL_law_363 : decode cL_law 363 = .ok (.istore 6, 2) := by decide +kernel
theorem dL_law_365 : decode cL_law 365 = .ok (.aload_n 2, 1) := by decide +kernel
theorem dL_law_366 : decode cL_law 366 = .ok (.invokevirtual 81, 3) := by decide +kernel
theorem dL_law_369 : decode cL_law 369 = .ok (.iload 5, 2) := by decide +kernel
theorem dL_law_371 : decode cL_law 371 = .ok (.if_icmp .eq 5, 3) := by decide +kernel
theorem dL_law_374 : decode cL_law 374 = .ok (.iconst 0, 1) := by decide +kernel
theorem dL_law_375 : decode cL_law 375 = .ok (.ireturn, 1) := by decide +kernel
theorem dL_law_376 : decode cL_law 376 = .ok (.iload 5, 2) := by decide +kernel
theorem dL_law_378 : decode cL_law 378 = .ok (.ifCond .ne 15, 3) := by decide +kernel
theorem dL_law_381 : decode cL_law 381 = .ok (.aload_n 3, 1) := by decide +kernel
theorem dL_law_382 : decode cL_law 382 = .ok (.iconst 0, 1) := by decide +kernel
theorem dL_law_383 : decode cL_law 383 = .ok (.laload, 1) := by decide +kernel
theorem dL_law_384 : decode cL_law 384 = .ok (.iload 6, 2) := by decide +kernel
theorem dL_law_386 : decode cL_law 386 = .ok (.i2l, 1) := by decide +kernel
theorem dL_law_387 : decode cL_law 387 = .ok (.lcmp, 1) := by decide +kernel
theorem dL_law_388 : decode cL_law 388 = .ok (.ifCond .eq 5, 3) := by decide +kernel
theorem dL_law_391 : decode cL_law 391 = .ok (.iconst 0, 1) := by decide +kernel
theorem dL_law_392 : decode cL_law 392 = .ok (.ireturn, 1) := by decide +kernel
theorem dL_law_393 : decode cL_law 393 = .ok (.goto 607, 3) := by decide +kernel
theorem dL_law_396 : decode cL_law 396 = .ok (.aload_n 1, 1) := by decide +kernel
theorem dL_law_397 : decode cL_law 397 = .ok (.aload_n 0, 1) := by decide +kernel
theorem dL_law_398 : decode cL_law 398 = .ok (.iload 4, 2) := by decide +kernel
theorem dL_law_400 : decode cL_law 400 = .ok (.iconst 1, 1) := by decide +kernel
theorem dL_law_401 : decode cL_law 401 = .ok (.iadd, 1) := by decide +kernel
theorem dL_law_402 : decode cL_law 402 = .ok (.iaload, 1) := by decide +kernel
theorem dL_law_403 : decode cL_law 403 = .ok (.aload_n 0, 1) := by decide +kernel
theorem dL_law_404 : decode cL_law 404 = .ok (.iload 4, 2) := by decide +kernel
theorem dL_law_406 : decode cL_law 406 = .ok (.iconst 2, 1) := by decide +kernel
theorem dL_law_407 : decode cL_law 407 = .ok (.iadd, 1) := by decide +kernel
theorem dL_law_408 : decode cL_law 408 = .ok (.iaload, 1) := by decide +kernel
theorem dL_law_409 : decode cL_law 409 = .ok (.aload_n 3, 1) := by decide +kernel
theorem dL_law_410 : decode cL_law 410 = .ok (.invokestatic 98, 3) := by decide +kernel
theorem dL_law_413 : decode cL_law 413 = .ok (.istore 5, 2) := by decide +kernel
theorem dL_law_415 : decode cL_law 415 = .ok (.aload_n 2, 1) := by decide +kernel
theorem dL_law_416 : decode cL_law 416 = .ok (.aload_n 0, 1) := by decide +kernel
theorem dL_law_417 : decode cL_law 417 = .ok (.iload 4, 2) := by decide +kernel
theorem dL_law_419 : decode cL_law 419 = .ok (.iconst 1, 1) := by decide +kernel
theorem dL_law_420 : decode cL_law 420 = .ok (.iadd, 1) := by decide +kernel
theorem dL_law_421 : decode cL_law 421 = .ok (.iaload, 1) := by decide +kernel
theorem dL_law_422 : decode cL_law 422 = .ok (.aload_n 0, 1) := by decide +kernel
theorem dL_law_423 : decode cL_law 423 = .ok (.iload 4, 2) := by decide +kernel
theorem dL_law_425 : decode cL_law 425 = .ok (.iconst 2, 1) := by decide +kernel
theorem dL_law_426 : decode cL_law 426 = .ok (.iadd, 1) := by decide +kernel
theorem dL_law_427 : decode cL_law 427 = .ok (.iaload, 1) := by decide +kernel
theorem dL_law_428 : decode cL_law 428 = .ok (.invokevirtual 101, 3) := by decide +kernel
theorem dL_law_431 : decode cL_law 431 = .ok (.istore 6, 2) := by decide +kernel
theorem dL_law_433 : decode cL_law 433 = .ok (.aload_n 2, 1) := by decide +kernel
theorem dL_law_434 : decode cL_law 434 = .ok (.invokevirtual 81, 3) := by decide +kernel
theorem dL_law_437 : decode cL_law 437 = .ok (.iload 5, 2) := by decide +kernel
theorem dL_law_439 : decode cL_law 439 = .ok (.if_icmp .eq 5, 3) := by decide +kernel
theorem dL_law_442 : decode cL_law 442 = .ok (.iconst 0, 1) := by decide +kernel
theorem dL_law_443 : decode cL_law 443 = .ok (.ireturn, 1) := by decide +kernel
theorem dL_law_444 : decode cL_law 444 = .ok (.iload 5, 2) := by decide +kernel
theorem dL_law_446 : decode cL_law 446 = .ok (.ifCond .ne 15, 3) := by decide +kernel
theorem dL_law_449 : decode cL_law 449 = .ok (.aload_n 3, 1) := by decide +kernel
theorem dL_law_450 : decode cL_law 450 = .ok (.iconst 0, 1) := by decide +kernel
theorem dL_law_451 : decode cL_law 451 = .ok (.laload, 1) := by decide +kernel
theorem dL_law_452 : decode cL_law 452 = .ok (.iload 6, 2) := by decide +kernel
theorem dL_law_454 : decode cL_law 454 = .ok (.i2l, 1) := by decide +kernel
theorem dL_law_455 : decode cL_law 455 = .ok (.lcmp, 1) := by decide +kernel
theorem dL_law_456 : decode cL_law 456 = .ok (.ifCond .eq 5, 3) := by decide +kernel
theorem dL_law_459 : decode cL_law 459 = .ok (.iconst 0, 1) := by decide +kernel
theorem dL_law_460 : decode cL_law 460 = .ok (.ireturn, 1) := by decide +kernel
theorem dL_law_461 : decode cL_law 461 = .ok (.goto 539, 3) := by decide +kernel
theorem dL_law_464 : decode cL_law 464 = .ok (.aload_n 1, 1) := by decide +kernel
theorem dL_law_465 : decode cL_law 465 = .ok (.aload_n 0, 1) := by decide +kernel
theorem dL_law_466 : decode cL_law 466 = .ok (.iload 4, 2) := by decide +kernel
theorem dL_law_468 : decode cL_law 468 = .ok (.iconst 1, 1) := by decide +kernel
theorem dL_law_469 : decode cL_law 469 = .ok (.iadd, 1) := by decide +kernel
theorem dL_law_470 : decode cL_law 470 = .ok (.iaload, 1) := by decide +kernel
theorem dL_law_471 : decode cL_law 471 = .ok (.aload_n 0, 1) := by decide +kernel
theorem dL_law_472 : decode cL_law 472 = .ok (.iload 4, 2) := by decide +kernel
theorem dL_law_474 : decode cL_law 474 = .ok (.iconst 2, 1) := by decide +kernel
theorem dL_law_475 : decode cL_law 475 = .ok (.iadd, 1) := by decide +kernel
theorem dL_law_476 : decode cL_law 476 = .ok (.iaload, 1) := by decide +kernel
theorem dL_law_477 : decode cL_law 477 = .ok (.invokestatic 102, 3) := by decide +kernel
theorem dL_law_480 : decode cL_law 480 = .ok (.istore 5, 2) := by decide +kernel
theorem dL_law_482 : decode cL_law 482 = .ok (.aload_n 2, 1) := by decide +kernel
theorem dL_law_483 : decode cL_law 483 = .ok (.aload_n 0, 1) := by decide +kernel
theorem dL_law_484 : decode cL_law 484 = .ok (.iload 4, 2) := by decide +kernel
theorem dL_law_486 : decode cL_law 486 = .ok (.iconst 1, 1) := by decide +kernel
theorem dL_law_487 : decode cL_law 487 = .ok (.iadd, 1) := by decide +kernel
theorem dL_law_488 : decode cL_law 488 = .ok (.iaload, 1) := by decide +kernel
theorem dL_law_489 : decode cL_law 489 = .ok (.aload_n 0, 1) := by decide +kernel
theorem dL_law_490 : decode cL_law 490 = .ok (.iload 4, 2) := by decide +kernel
theorem dL_law_492 : decode cL_law 492 = .ok (.iconst 2, 1) := by decide +kernel
theorem dL_law_493 : decode cL_law 493 = .ok (.iadd, 1) := by decide +kernel
theorem dL_law_494 : decode cL_law 494 = .ok (.iaload, 1) := by decide +kernel
theorem dL_law_495 : decode cL_law 495 = .ok (.invokevirtual 105, 3) := by decide +kernel
theorem dL_law_498 : decode cL_law 498 = .ok (.aload_n 2, 1) := by decide +kernel
theorem dL_law_499 : decode cL_law 499 = .ok (.invokevirtual 81, 3) := by decide +kernel
theorem dL_law_502 : decode cL_law 502 = .ok (.iload 5, 2) := by decide +kernel
theorem dL_law_504 : decode cL_law 504 = .ok (.if_icmp .eq 5, 3) := by decide +kernel
theorem dL_law_507 : decode cL_law 507 = .ok (.iconst 0, 1) := by decide +kernel
theorem dL_law_508 : decode cL_law 508 = .ok (.ireturn, 1) := by decide +kernel
theorem dL_law_509 : decode cL_law 509 = .ok (.goto 491, 3) := by decide +kernel
theorem dL_law_512 : decode cL_law 512 = .ok (.aload_n 1, 1) := by decide +kernel
theorem dL_law_513 : decode cL_law 513 = .ok (.aload_n 0, 1) := by decide +kernel
theorem dL_law_514 : decode cL_law 514 = .ok (.iload 4, 2) := by decide +kernel
theorem dL_law_516 : decode cL_law 516 = .ok (.iconst 1, 1) := by decide +kernel
theorem dL_law_517 : decode cL_law 517 = .ok (.iadd, 1) := by decide +kernel
theorem dL_law_518 : decode cL_law 518 = .ok (.iaload, 1) := by decide +kernel
theorem dL_law_519 : decode cL_law 519 = .ok (.aload_n 3, 1) := by decide +kernel
theorem dL_law_520 : decode cL_law 520 = .ok (.invokestatic 106, 3) := by decide +kernel
theorem dL_law_523 : decode cL_law 523 = .ok (.istore 5, 2) := by decide +kernel
theorem dL_law_525 : decode cL_law 525 = .ok (.aload_n 2, 1) := by decide +kernel
theorem dL_law_526 : decode cL_law 526 = .ok (.aload_n 0, 1) := by decide +kernel
theorem dL_law_527 : decode cL_law 527 = .ok (.iload 4, 2) := by decide +kernel
theorem dL_law_529 : decode cL_law 529 = .ok (.iconst 1, 1) := by decide +kernel
theorem dL_law_530 : decode cL_law 530 = .ok (.iadd, 1) := by decide +kernel
theorem dL_law_531 : decode cL_law 531 = .ok (.iaload, 1) := by decide +kernel
theorem dL_law_532 : decode cL_law 532 = .ok (.invokevirtual 108, 3) := by decide +kernel
theorem dL_law_535 : decode cL_law 535 = .ok (.istore 6, 2) := by decide +kernel
theorem dL_law_537 : decode cL_law 537 = .ok (.aload_n 2, 1) := by decide +kernel
theorem dL_law_538 : decode cL_law 538 = .ok (.invokevirtual 81, 3) := by decide +kernel
theorem dL_law_541 : decode cL_law 541 = .ok (.iload 5, 2) := by decide +kernel
theorem dL_law_543 : decode cL_law 543 = .ok (.if_icmp .eq 5, 3) := by decide +kernel
theorem dL_law_546 : decode cL_law 546 = .ok (.iconst 0, 1) := by decide +kernel
theorem dL_law_547 : decode cL_law 547 = .ok (.ireturn, 1) := by decide +kernel
theorem dL_law_548 : decode cL_law 548 = .ok (.iload 5, 2) := by decide +kernel
theorem dL_law_550 : decode cL_law 550 = .ok (.ifCond .ne 15, 3) := by decide +kernel
theorem dL_law_553 : decode cL_law 553 = .ok (.aload_n 3, 1) := by decide +kernel
theorem dL_law_554 : decode cL_law 554 = .ok (.iconst 0, 1) := by decide +kernel
theorem dL_law_555 : decode cL_law 555 = .ok (.laload, 1) := by decide +kernel
theorem dL_law_556 : decode cL_law 556 = .ok (.iload 6, 2) := by decide +kernel
theorem dL_law_558 : decode cL_law 558 = .ok (.i2l, 1) := by decide +kernel
theorem dL_law_559 : decode cL_law 559 = .ok (.lcmp, 1) := by decide +kernel
theorem dL_law_560 : decode cL_law 560 = .ok (.ifCond .eq 5, 3) := by decide +kernel
theorem dL_law_563 : decode cL_law 563 = .ok (.iconst 0, 1) := by decide +kernel
theorem dL_law_564 : decode cL_law 564 = .ok (.ireturn, 1) := by decide +kernel
theorem dL_law_565 : decode cL_law 565 = .ok (.goto 435, 3) := by decide +kernel
theorem dL_law_568 : decode cL_law 568 = .ok (.aload_n 1, 1) := by decide +kernel
theorem dL_law_569 : decode cL_law 569 = .ok (.aload_n 3, 1) := by decide +kernel
theorem dL_law_570 : decode cL_law 570 = .ok (.invokestatic 109, 3) := by decide +kernel
theorem dL_law_573 : decode cL_law 573 = .ok (.istore 5, 2) := by decide +kernel
theorem dL_law_575 : decode cL_law 575 = .ok (.aload_n 2, 1) := by decide +kernel
theorem dL_law_576 : decode cL_law 576 = .ok (.invokevirtual 111, 3) := by decide +kernel
theorem dL_law_579 : decode cL_law 579 = .ok (.istore 6, 2) := by decide +kernel
theorem dL_law_581 : decode cL_law 581 = .ok (.aload_n 2, 1) := by decide +kernel
theorem dL_law_582 : decode cL_law 582 = .ok (.invokevirtual 81, 3) := by decide +kernel
theorem dL_law_585 : decode cL_law 585 = .ok (.iload 5, 2) := by decide +kernel
theorem dL_law_587 : decode cL_law 587 = .ok (.if_icmp .eq 5, 3) := by decide +kernel
theorem dL_law_590 : decode cL_law 590 = .ok (.iconst 0, 1) := by decide +kernel
theorem dL_law_591 : decode cL_law 591 = .ok (.ireturn, 1) := by decide +kernel
theorem dL_law_592 : decode cL_law 592 = .ok (.iload 5, 2) := by decide +kernel
theorem dL_law_594 : decode cL_law 594 = .ok (.ifCond .ne 15, 3) := by decide +kernel
theorem dL_law_597 : decode cL_law 597 = .ok (.aload_n 3, 1) := by decide +kernel
theorem dL_law_598 : decode cL_law 598 = .ok (.iconst 0, 1) := by decide +kernel
theorem dL_law_599 : decode cL_law 599 = .ok (.laload, 1) := by decide +kernel
theorem dL_law_600 : decode cL_law 600 = .ok (.iload 6, 2) := by decide +kernel
theorem dL_law_602 : decode cL_law 602 = .ok (.i2l, 1) := by decide +kernel
theorem dL_law_603 : decode cL_law 603 = .ok (.lcmp, 1) := by decide +kernel
theorem dL_law_604 : decode cL_law 604 = .ok (.ifCond .eq 5, 3) := by decide +kernel
theorem dL_law_607 : decode cL_law 607 = .ok (.iconst 0, 1) := by decide +kernel
theorem dL_law_608 : decode cL_law 608 = .ok (.ireturn, 1) := by decide +kernel
theorem dL_law_609 : decode cL_law 609 = .ok (.goto 391, 3) := by decide +kernel
theorem dL_law_612 : decode cL_law 612 = .ok (.aload_n 1, 1) := by decide +kernel
theorem dL_law_613 : decode cL_law 613 = .ok (.aload_n 0, 1) := by decide +kernel
theorem dL_law_614 : decode cL_law 614 = .ok (.iload 4, 2) := by decide +kernel
theorem dL_law_616 : decode cL_law 616 = .ok (.iconst 1, 1) := by decide +kernel
theorem dL_law_617 : decode cL_law 617 = .ok (.iadd, 1) := by decide +kernel
theorem dL_law_618 : decode cL_law 618 = .ok (.iaload, 1) := by decide +kernel
theorem dL_law_619 : decode cL_law 619 = .ok (.aload_n 3, 1) := by decide +kernel
theorem dL_law_620 : decode cL_law 620 = .ok (.invokestatic 112, 3) := by decide +kernel
theorem dL_law_623 : decode cL_law 623 = .ok (.istore 5, 2) := by decide +kernel
theorem dL_law_625 : decode cL_law 625 = .ok (.aload_n 2, 1) := by decide +kernel
theorem dL_law_626 : decode cL_law 626 = .ok (.aload_n 0, 1) := by decide +kernel
theorem dL_law_627 : decode cL_law 627 = .ok (.iload 4, 2) := by decide +kernel
theorem dL_law_629 : decode cL_law 629 = .ok (.iconst 1, 1) := by decide +kernel
theorem dL_law_630 : decode cL_law 630 = .ok (.iadd, 1) := by decide +kernel
theorem dL_law_631 : decode cL_law 631 = .ok (.iaload, 1) := by decide +kernel
theorem dL_law_632 : decode cL_law 632 = .ok (.invokevirtual 114, 3) := by decide +kernel
theorem dL_law_635 : decode cL_law 635 = .ok (.istore 6, 2) := by decide +kernel
theorem dL_law_637 : decode cL_law 637 = .ok (.aload_n 2, 1) := by decide +kernel
theorem dL_law_638 : decode cL_law 638 = .ok (.invokevirtual 81, 3) := by decide +kernel
theorem dL_law_641 : decode cL_law 641 = .ok (.iload 5, 2) := by decide +kernel
theorem dL_law_643 : decode cL_law 643 = .ok (.if_icmp .eq 5, 3) := by decide +kernel
theorem dL_law_646 : decode cL_law 646 = .ok (.iconst 0, 1) := by decide +kernel
theorem dL_law_647 : decode cL_law 647 = .ok (.ireturn, 1) := by decide +kernel
theorem dL_law_648 : decode cL_law 648 = .ok (.iload 5, 2) := by decide +kernel
theorem dL_law_650 : decode cL_law 650 = .ok (.ifCond .ne 15, 3) := by decide +kernel
theorem dL_law_653 : decode cL_law 653 = .ok (.aload_n 3, 1) := by decide +kernel
theorem dL_law_654 : decode cL_law 654 = .ok (.iconst 0, 1) := by decide +kernel
theorem dL_law_655 : decode cL_law 655 = .ok (.laload, 1) := by decide +kernel
theorem dL_law_656 : decode cL_law 656 = .ok (.iload 6, 2) := by decide +kernel
theorem dL_law_658 : decode cL_law 658 = .ok (.i2l, 1) := by decide +kernel
theorem dL_law_659 : decode cL_law 659 = .ok (.lcmp, 1) := by decide +kernel
theorem dL_law_660 : decode cL_law 660 = .ok (.ifCond .eq 5, 3) := by decide +kernel
theorem dL_law_663 : decode cL_law 663 = .ok (.iconst 0, 1) := by decide +kernel
theorem dL_law_664 : decode cL_law 664 = .ok (.ireturn, 1) := by decide +kernel
theorem dL_law_665 : decode cL_law 665 = .ok (.goto 335, 3) := by decide +kernel
theorem dL_law_668 : decode cL_law 668 = .ok (.aload_n 1, 1) := by decide +kernel
theorem dL_law_669 : decode cL_law 669 = .ok (.aload_n 0, 1) := by decide +kernel
theorem dL_law_670 : decode cL_law 670 = .ok (.iload 4, 2) := by decide +kernel
theorem dL_law_672 : decode cL_law 672 = .ok (.iconst 1, 1) := by decide +kernel
theorem dL_law_673 : decode cL_law 673 = .ok (.iadd, 1) := by decide +kernel
theorem dL_law_674 : decode cL_law 674 = .ok (.iaload, 1) := by decide +kernel
theorem dL_law_675 : decode cL_law 675 = .ok (.aload_n 0, 1) := by decide +kernel
theorem dL_law_676 : decode cL_law 676 = .ok (.iload 4, 2) := by decide +kernel
theorem dL_law_678 : decode cL_law 678 = .ok (.iconst 2, 1) := by decide +kernel
theorem dL_law_679 : decode cL_law 679 = .ok (.iadd, 1) := by decide +kernel
theorem dL_law_680 : decode cL_law 680 = .ok (.iaload, 1) := by decide +kernel
theorem dL_law_681 : decode cL_law 681 = .ok (.invokestatic 115, 3) := by decide +kernel
theorem dL_law_684 : decode cL_law 684 = .ok (.istore 5, 2) := by decide +kernel
theorem dL_law_686 : decode cL_law 686 = .ok (.aload_n 2, 1) := by decide +kernel
theorem dL_law_687 : decode cL_law 687 = .ok (.aload_n 0, 1) := by decide +kernel
theorem dL_law_688 : decode cL_law 688 = .ok (.iload 4, 2) := by decide +kernel
theorem dL_law_690 : decode cL_law 690 = .ok (.iconst 1, 1) := by decide +kernel
theorem dL_law_691 : decode cL_law 691 = .ok (.iadd, 1) := by decide +kernel
theorem dL_law_692 : decode cL_law 692 = .ok (.iaload, 1) := by decide +kernel
theorem dL_law_693 : decode cL_law 693 = .ok (.aload_n 0, 1) := by decide +kernel
theorem dL_law_694 : decode cL_law 694 = .ok (.iload 4, 2) := by decide +kernel
theorem dL_law_696 : decode cL_law 696 = .ok (.iconst 2, 1) := by decide +kernel
theorem dL_law_697 : decode cL_law 697 = .ok (.iadd, 1) := by decide +kernel
theorem dL_law_698 : decode cL_law 698 = .ok (.iaload, 1) := by decide +kernel
theorem dL_law_699 : decode cL_law 699 = .ok (.invokevirtual 117, 3) := by decide +kernel
theorem dL_law_702 : decode cL_law 702 = .ok (.aload_n 2, 1) := by decide +kernel
theorem dL_law_703 : decode cL_law 703 = .ok (.invokevirtual 81, 3) := by decide +kernel
theorem dL_law_706 : decode cL_law 706 = .ok (.iload 5, 2) := by decide +kernel
theorem dL_law_708 : decode cL_law 708 = .ok (.if_icmp .eq 5, 3) := by decide +kernel
theorem dL_law_711 : decode cL_law 711 = .ok (.iconst 0, 1) := by decide +kernel
theorem dL_law_712 : decode cL_law 712 = .ok (.ireturn, 1) := by decide +kernel
theorem dL_law_713 : decode cL_law 713 = .ok (.goto 287, 3) := by decide +kernel
theorem dL_law_716 : decode cL_law 716 = .ok (.aload_n 1, 1) := by decide +kernel
theorem dL_law_717 : decode cL_law 717 = .ok (.aload_n 0, 1) := by decide +kernel
theorem dL_law_718 : decode cL_law 718 = .ok (.iload 4, 2) := by decide +kernel
theorem dL_law_720 : decode cL_law 720 = .ok (.iconst 1, 1) := by decide +kernel
theorem dL_law_721 : decode cL_law 721 = .ok (.iadd, 1) := by decide +kernel
theorem dL_law_722 : decode cL_law 722 = .ok (.iaload, 1) := by decide +kernel
theorem dL_law_723 : decode cL_law 723 = .ok (.aload_n 0, 1) := by decide +kernel
theorem dL_law_724 : decode cL_law 724 = .ok (.iload 4, 2) := by decide +kernel
theorem dL_law_726 : decode cL_law 726 = .ok (.iconst 2, 1) := by decide +kernel
theorem dL_law_727 : decode cL_law 727 = .ok (.iadd, 1) := by decide +kernel
theorem dL_law_728 : decode cL_law 728 = .ok (.iaload, 1) := by decide +kernel
theorem dL_law_729 : decode cL_law 729 = .ok (.aload_n 3, 1) := by decide +kernel
theorem dL_law_730 : decode cL_law 730 = .ok (.invokestatic 118, 3) := by decide +kernel
theorem dL_law_733 : decode cL_law 733 = .ok (.istore 5, 2) := by decide +kernel
theorem dL_law_735 : decode cL_law 735 = .ok (.aload_n 2, 1) := by decide +kernel
theorem dL_law_736 : decode cL_law 736 = .ok (.aload_n 0, 1) := by decide +kernel
theorem dL_law_737 : decode cL_law 737 = .ok (.iload 4, 2) := by decide +kernel
theorem dL_law_739 : decode cL_law 739 = .ok (.iconst 1, 1) := by decide +kernel
theorem dL_law_740 : decode cL_law 740 = .ok (.iadd, 1) := by decide +kernel
theorem dL_law_741 : decode cL_law 741 = .ok (.iaload, 1) := by decide +kernel
theorem dL_law_742 : decode cL_law 742 = .ok (.aload_n 0, 1) := by decide +kernel
theorem dL_law_743 : decode cL_law 743 = .ok (.iload 4, 2) := by decide +kernel
theorem dL_law_745 : decode cL_law 745 = .ok (.iconst 2, 1) := by decide +kernel
theorem dL_law_746 : decode cL_law 746 = .ok (.iadd, 1) := by decide +kernel
theorem dL_law_747 : decode cL_law 747 = .ok (.iaload, 1) := by decide +kernel
theorem dL_law_748 : decode cL_law 748 = .ok (.invokevirtual 120, 3) := by decide +kernel
theorem dL_law_751 : decode cL_law 751 = .ok (.istore 6, 2) := by decide +kernel
theorem dL_law_753 : decode cL_law 753 = .ok (.aload_n 2, 1) := by decide +kernel
theorem dL_law_754 : decode cL_law 754 = .ok (.invokevirtual 81, 3) := by decide +kernel
theorem dL_law_757 : decode cL_law 757 = .ok (.iload 5, 2) := by decide +kernel
theorem dL_law_759 : decode cL_law 759 = .ok (.if_icmp .eq 5, 3) := by decide +kernel
theorem dL_law_762 : decode cL_law 762 = .ok (.iconst 0, 1) := by decide +kernel
theorem dL_law_763 : decode cL_law 763 = .ok (.ireturn, 1) := by decide +kernel
theorem dL_law_764 : decode cL_law 764 = .ok (.iload 5, 2) := by decide +kernel
theorem dL_law_766 : decode cL_law 766 = .ok (.ifCond .ne 15, 3) := by decide +kernel
theorem dL_law_769 : decode cL_law 769 = .ok (.aload_n 3, 1) := by decide +kernel
theorem dL_law_770 : decode cL_law 770 = .ok (.iconst 0, 1) := by decide +kernel
theorem dL_law_771 : decode cL_law 771 = .ok (.laload, 1) := by decide +kernel
theorem dL_law_772 : decode cL_law 772 = .ok (.iload 6, 2) := by decide +kernel
theorem dL_law_774 : decode cL_law 774 = .ok (.i2l, 1) := by decide +kernel
theorem dL_law_775 : decode cL_law 775 = .ok (.lcmp, 1) := by decide +kernel
theorem dL_law_776 : decode cL_law 776 = .ok (.ifCond .eq 5, 3) := by decide +kernel
theorem dL_law_779 : decode cL_law 779 = .ok (.iconst 0, 1) := by decide +kernel
theorem dL_law_780 : decode cL_law 780 = .ok (.ireturn, 1) := by decide +kernel
theorem dL_law_781 : decode cL_law 781 = .ok (.goto 219, 3) := by decide +kernel
theorem dL_law_784 : decode cL_law 784 = .ok (.aload_n 1, 1) := by decide +kernel
theorem dL_law_785 : decode cL_law 785 = .ok (.aload_n 0, 1) := by decide +kernel
theorem dL_law_786 : decode cL_law 786 = .ok (.iload 4, 2) := by decide +kernel
theorem dL_law_788 : decode cL_law 788 = .ok (.iconst 1, 1) := by decide +kernel
theorem dL_law_789 : decode cL_law 789 = .ok (.iadd, 1) := by decide +kernel
theorem dL_law_790 : decode cL_law 790 = .ok (.iaload, 1) := by decide +kernel
theorem dL_law_791 : decode cL_law 791 = .ok (.aload_n 0, 1) := by decide +kernel
theorem dL_law_792 : decode cL_law 792 = .ok (.iload 4, 2) := by decide +kernel
theorem dL_law_794 : decode cL_law 794 = .ok (.iconst 2, 1) := by decide +kernel
theorem dL_law_795 : decode cL_law 795 = .ok (.iadd, 1) := by decide +kernel
theorem dL_law_796 : decode cL_law 796 = .ok (.iaload, 1) := by decide +kernel
theorem dL_law_797 : decode cL_law 797 = .ok (.aload_n 3, 1) := by decide +kernel
theorem dL_law_798 : decode cL_law 798 = .ok (.invokestatic 121, 3) := by decide +kernel
theorem dL_law_801 : decode cL_law 801 = .ok (.istore 5, 2) := by decide +kernel
theorem dL_law_803 : decode cL_law 803 = .ok (.aload_n 2, 1) := by decide +kernel
theorem dL_law_804 : decode cL_law 804 = .ok (.aload_n 0, 1) := by decide +kernel
theorem dL_law_805 : decode cL_law 805 = .ok (.iload 4, 2) := by decide +kernel
theorem dL_law_807 : decode cL_law 807 = .ok (.iconst 1, 1) := by decide +kernel
theorem dL_law_808 : decode cL_law 808 = .ok (.iadd, 1) := by decide +kernel
theorem dL_law_809 : decode cL_law 809 = .ok (.iaload, 1) := by decide +kernel
theorem dL_law_810 : decode cL_law 810 = .ok (.aload_n 0, 1) := by decide +kernel
theorem dL_law_811 : decode cL_law 811 = .ok (.iload 4, 2) := by decide +kernel
theorem dL_law_813 : decode cL_law 813 = .ok (.iconst 2, 1) := by decide +kernel
theorem dL_law_814 : decode cL_law 814 = .ok (.iadd, 1) := by decide +kernel
theorem dL_law_815 : decode cL_law 815 = .ok (.iaload, 1) := by decide +kernel
theorem dL_law_816 : decode cL_law 816 = .ok (.invokevirtual 123, 3) := by decide +kernel
theorem dL_law_819 : decode cL_law 819 = .ok (.istore 6, 2) := by decide +kernel
theorem dL_law_821 : decode cL_law 821 = .ok (.aload_n 2, 1) := by decide +kernel
theorem dL_law_822 : decode cL_law 822 = .ok (.invokevirtual 81, 3) := by decide +kernel
theorem dL_law_825 : decode cL_law 825 = .ok (.iload 5, 2) := by decide +kernel
theorem dL_law_827 : decode cL_law 827 = .ok (.if_icmp .eq 5, 3) := by decide +kernel
theorem dL_law_830 : decode cL_law 830 = .ok (.iconst 0, 1) := by decide +kernel
theorem dL_law_831 : decode cL_law 831 = .ok (.ireturn, 1) := by decide +kernel
theorem dL_law_832 : decode cL_law 832 = .ok (.iload 5, 2) := by decide +kernel
theorem dL_law_834 : decode cL_law 834 = .ok (.ifCond .ne 15, 3) := by decide +kernel
theorem dL_law_837 : decode cL_law 837 = .ok (.aload_n 3, 1) := by decide +kernel
theorem dL_law_838 : decode cL_law 838 = .ok (.iconst 0, 1) := by decide +kernel
theorem dL_law_839 : decode cL_law 839 = .ok (.laload, 1) := by decide +kernel
theorem dL_law_840 : decode cL_law 840 = .ok (.iload 6, 2) := by decide +kernel
theorem dL_law_842 : decode cL_law 842 = .ok (.i2l, 1) := by decide +kernel
theorem dL_law_843 : decode cL_law 843 = .ok (.lcmp, 1) := by decide +kernel
theorem dL_law_844 : decode cL_law 844 = .ok (.ifCond .eq 5, 3) := by decide +kernel
theorem dL_law_847 : decode cL_law 847 = .ok (.iconst 0, 1) := by decide +kernel
theorem dL_law_848 : decode cL_law 848 = .ok (.ireturn, 1) := by decide +kernel
theorem dL_law_849 : decode cL_law 849 = .ok (.goto 151, 3) := by decide +kernel
theorem dL_law_852 : decode cL_law 852 = .ok (.aload_n 1, 1) := by decide +kernel
theorem dL_law_853 : decode cL_law 853 = .ok (.aload_n 0, 1) := by decide +kernel
theorem dL_law_854 : decode cL_law 854 = .ok (.iload 4, 2) := by decide +kernel
theorem dL_law_856 : decode cL_law 856 = .ok (.iconst 1, 1) := by decide +kernel
theorem dL_law_857 : decode cL_law 857 = .ok (.iadd, 1) := by decide +kernel
theorem dL_law_858 : decode cL_law 858 = .ok (.iaload, 1) := by decide +kernel
theorem dL_law_859 : decode cL_law 859 = .ok (.aload_n 3, 1) := by decide +kernel
theorem dL_law_860 : decode cL_law 860 = .ok (.invokestatic 124, 3) := by decide +kernel
theorem dL_law_863 : decode cL_law 863 = .ok (.istore 5, 2) := by decide +kernel
theorem dL_law_865 : decode cL_law 865 = .ok (.aload_n 2, 1) := by decide +kernel
theorem dL_law_866 : decode cL_law 866 = .ok (.aload_n 0, 1) := by decide +kernel
theorem dL_law_867 : decode cL_law 867 = .ok (.iload 4, 2) := by decide +kernel
theorem dL_law_869 : decode cL_law 869 = .ok (.iconst 1, 1) := by decide +kernel
theorem dL_law_870 : decode cL_law 870 = .ok (.iadd, 1) := by decide +kernel
theorem dL_law_871 : decode cL_law 871 = .ok (.iaload, 1) := by decide +kernel
theorem dL_law_872 : decode cL_law 872 = .ok (.invokevirtual 126, 3) := by decide +kernel
theorem dL_law_875 : decode cL_law 875 = .ok (.istore 6, 2) := by decide +kernel
theorem dL_law_877 : decode cL_law 877 = .ok (.aload_n 2, 1) := by decide +kernel
theorem dL_law_878 : decode cL_law 878 = .ok (.invokevirtual 81, 3) := by decide +kernel
theorem dL_law_881 : decode cL_law 881 = .ok (.iload 5, 2) := by decide +kernel
theorem dL_law_883 : decode cL_law 883 = .ok (.if_icmp .eq 5, 3) := by decide +kernel
theorem dL_law_886 : decode cL_law 886 = .ok (.iconst 0, 1) := by decide +kernel
theorem dL_law_887 : decode cL_law 887 = .ok (.ireturn, 1) := by decide +kernel
theorem dL_law_888 : decode cL_law 888 = .ok (.iload 5, 2) := by decide +kernel
theorem dL_law_890 : decode cL_law 890 = .ok (.ifCond .ne 15, 3) := by decide +kernel
theorem dL_law_893 : decode cL_law 893 = .ok (.aload_n 3, 1) := by decide +kernel
theorem dL_law_894 : decode cL_law 894 = .ok (.iconst 0, 1) := by decide +kernel
theorem dL_law_895 : decode cL_law 895 = .ok (.laload, 1) := by decide +kernel
theorem dL_law_896 : decode cL_law 896 = .ok (.iload 6, 2) := by decide +kernel
theorem dL_law_898 : decode cL_law 898 = .ok (.i2l, 1) := by decide +kernel
theorem dL_law_899 : decode cL_law 899 = .ok (.lcmp, 1) := by decide +kernel
theorem dL_law_900 : decode cL_law 900 = .ok (.ifCond .eq 5, 3) := by decide +kernel
theorem dL_law_903 : decode cL_law 903 = .ok (.iconst 0, 1) := by decide +kernel
theorem dL_law_904 : decode cL_law 904 = .ok (.ireturn, 1) := by decide +kernel
theorem dL_law_905 : decode cL_law 905 = .ok (.goto 95, 3) := by decide +kernel
theorem dL_law_908 : decode cL_law 908 = .ok (.aload_n 1, 1) := by decide +kernel
theorem dL_law_909 : decode cL_law 909 = .ok (.aload_n 0, 1) := by decide +kernel
theorem dL_law_910 : decode cL_law 910 = .ok (.iload 4, 2) := by decide +kernel
theorem dL_law_912 : decode cL_law 912 = .ok (.iconst 1, 1) := by decide +kernel
theorem dL_law_913 : decode cL_law 913 = .ok (.iadd, 1) := by decide +kernel
theorem dL_law_914 : decode cL_law 914 = .ok (.iaload, 1) := by decide +kernel
theorem dL_law_915 : decode cL_law 915 = .ok (.invokestatic 127, 3) := by decide +kernel
theorem dL_law_918 : decode cL_law 918 = .ok (.istore 5, 2) := by decide +kernel
theorem dL_law_920 : decode cL_law 920 = .ok (.aload_n 2, 1) := by decide +kernel
theorem dL_law_921 : decode cL_law 921 = .ok (.aload_n 0, 1) := by decide +kernel
theorem dL_law_922 : decode cL_law 922 = .ok (.iload 4, 2) := by decide +kernel
theorem dL_law_924 : decode cL_law 924 = .ok (.iconst 1, 1) := by decide +kernel
theorem dL_law_925 : decode cL_law 925 = .ok (.iadd, 1) := by decide +kernel
theorem dL_law_926 : decode cL_law 926 = .ok (.iaload, 1) := by decide +kernel
theorem dL_law_927 : decode cL_law 927 = .ok (.invokevirtual 130, 3) := by decide +kernel
theorem dL_law_930 : decode cL_law 930 = .ok (.aload_n 2, 1) := by decide +kernel
theorem dL_law_931 : decode cL_law 931 = .ok (.invokevirtual 81, 3) := by decide +kernel
theorem dL_law_934 : decode cL_law 934 = .ok (.iload 5, 2) := by decide +kernel
theorem dL_law_936 : decode cL_law 936 = .ok (.if_icmp .eq 5, 3) := by decide +kernel
theorem dL_law_939 : decode cL_law 939 = .ok (.iconst 0, 1) := by decide +kernel
theorem dL_law_940 : decode cL_law 940 = .ok (.ireturn, 1) := by decide +kernel
theorem dL_law_941 : decode cL_law 941 = .ok (.goto 59, 3) := by decide +kernel
theorem dL_law_944 : decode cL_law 944 = .ok (.aload_n 1, 1) := by decide +kernel
theorem dL_law_945 : decode cL_law 945 = .ok (.aload_n 0, 1) := by decide +kernel
theorem dL_law_946 : decode cL_law 946 = .ok (.iload 4, 2) := by decide +kernel
theorem dL_law_948 : decode cL_law 948 = .ok (.iconst 1, 1) := by decide +kernel
theorem dL_law_949 : decode cL_law 949 = .ok (.iadd, 1) := by decide +kernel
theorem dL_law_950 : decode cL_law 950 = .ok (.iaload, 1) := by decide +kernel
theorem dL_law_951 : decode cL_law 951 = .ok (.aload_n 3, 1) := by decide +kernel
theorem dL_law_952 : decode cL_law 952 = .ok (.invokestatic 131, 3) := by decide +kernel
theorem dL_law_955 : decode cL_law 955 = .ok (.istore 5, 2) := by decide +kernel
theorem dL_law_957 : decode cL_law 957 = .ok (.aload_n 2, 1) := by decide +kernel
theorem dL_law_958 : decode cL_law 958 = .ok (.aload_n 0, 1) := by decide +kernel
theorem dL_law_959 : decode cL_law 959 = .ok (.iload 4, 2) := by decide +kernel
theorem dL_law_961 : decode cL_law 961 = .ok (.iconst 1, 1) := by decide +kernel
theorem dL_law_962 : decode cL_law 962 = .ok (.iadd, 1) := by decide +kernel
theorem dL_law_963 : decode cL_law 963 = .ok (.iaload, 1) := by decide +kernel
theorem dL_law_964 : decode cL_law 964 = .ok (.invokevirtual 133, 3) := by decide +kernel
theorem dL_law_967 : decode cL_law 967 = .ok (.istore 6, 2) := by decide +kernel
theorem dL_law_969 : decode cL_law 969 = .ok (.aload_n 2, 1) := by decide +kernel
theorem dL_law_970 : decode cL_law 970 = .ok (.invokevirtual 81, 3) := by decide +kernel
theorem dL_law_973 : decode cL_law 973 = .ok (.iload 5, 2) := by decide +kernel
theorem dL_law_975 : decode cL_law 975 = .ok (.if_icmp .eq 5, 3) := by decide +kernel
theorem dL_law_978 : decode cL_law 978 = .ok (.iconst 0, 1) := by decide +kernel
theorem dL_law_979 : decode cL_law 979 = .ok (.ireturn, 1) := by decide +kernel
theorem dL_law_980 : decode cL_law 980 = .ok (.iload 5, 2) := by decide +kernel
theorem dL_law_982 : decode cL_law 982 = .ok (.ifCond .ne 15, 3) := by decide +kernel
theorem dL_law_985 : decode cL_law 985 = .ok (.aload_n 3, 1) := by decide +kernel
theorem dL_law_986 : decode cL_law 986 = .ok (.iconst 0, 1) := by decide +kernel
theorem dL_law_987 : decode cL_law 987 = .ok (.laload, 1) := by decide +kernel
theorem dL_law_988 : decode cL_law 988 = .ok (.iload 6, 2) := by decide +kernel
theorem dL_law_990 : decode cL_law 990 = .ok (.i2l, 1) := by decide +kernel
theorem dL_law_991 : decode cL_law 991 = .ok (.lcmp, 1) := by decide +kernel
theorem dL_law_992 : decode cL_law 992 = .ok (.ifCond .eq 5, 3) := by decide +kernel
theorem dL_law_995 : decode cL_law 995 = .ok (.iconst 0, 1) := by decide +kernel
theorem dL_law_996 : decode cL_law 996 = .ok (.ireturn, 1) := by decide +kernel
theorem dL_law_997 : decode cL_law 997 = .ok (.goto 3, 3) := by decide +kernel
theorem dL_law_1000 : decode cL_law 1000 = .ok (.iinc 4 4, 3) := by decide +kernel
theorem dL_law_1003 : decode cL_law 1003 = .ok (.goto (-980), 3) := by decide +kernel
theorem dL_law_1006 : decode cL_law 1006 = .ok (.iconst 1, 1) := by decide +kernel
theorem dL_law_1007 : decode cL_law 1007 = .ok (.ireturn, 1) := by decide +kernel
