set_option maxRecDepth 100000
theorem dJ0_init_0 : decode cJ0_init 0 = .ok (.aload_n 0, 1) := by decide +kernel
theorem dJ0_init_1 : decode cJ0_init 1 = .ok (.invokespecial 1, 3) := by decide +kernel
theorem dJ0_init_4 : decode cJ0_init 4 = .ok (.aload_n 0, 1) := by decide +kernel
theorem dJ0_init_5 : decode cJ0_init 5 = .ok (.aload_n 0, 1) := by decide +kernel
theorem dJ0_init_6 : decode cJ0_init 6 = .ok (.putfield 7, 3) := by decide +kernel
theorem dJ0_init_9 : decode cJ0_init 9 = .ok (.aload_n 0, 1) := by decide +kernel
theorem dJ0_init_10 : decode cJ0_init 10 = .ok (.getstatic 13, 3) := by decide +kernel
theorem dJ0_init_13 : decode cJ0_init 13 = .ok (.putfield 17, 3) := by decide +kernel
theorem dJ0_init_16 : decode cJ0_init 16 = .ok (.aload_n 0, 1) := by decide +kernel
theorem dJ0_init_17 : decode cJ0_init 17 = .ok (.getstatic 20, 3) := by decide +kernel
theorem dJ0_init_20 : decode cJ0_init 20 = .ok (.putfield 24, 3) := by decide +kernel
theorem dJ0_init_23 : decode cJ0_init 23 = .ok (.aload_n 0, 1) := by decide +kernel
theorem dJ0_init_24 : decode cJ0_init 24 = .ok (.invokevirtual 27, 3) := by decide +kernel
theorem dJ0_init_27 : decode cJ0_init 27 = .ok (.pop, 1) := by decide +kernel
theorem dJ0_init_28 : decode cJ0_init 28 = .ok (.return_, 1) := by decide +kernel
theorem dJ0_init_2_0 : decode cJ0_init_2 0 = .ok (.aload_n 0, 1) := by decide +kernel
theorem dJ0_init_2_1 : decode cJ0_init_2 1 = .ok (.invokespecial 1, 3) := by decide +kernel
theorem dJ0_init_2_4 : decode cJ0_init_2 4 = .ok (.aload_n 0, 1) := by decide +kernel
theorem dJ0_init_2_5 : decode cJ0_init_2 5 = .ok (.aload_n 0, 1) := by decide +kernel
theorem dJ0_init_2_6 : decode cJ0_init_2 6 = .ok (.putfield 7, 3) := by decide +kernel
theorem dJ0_init_2_9 : decode cJ0_init_2 9 = .ok (.aload_n 0, 1) := by decide +kernel
theorem dJ0_init_2_10 : decode cJ0_init_2 10 = .ok (.getstatic 13, 3) := by decide +kernel
theorem dJ0_init_2_13 : decode cJ0_init_2 13 = .ok (.putfield 17, 3) := by decide +kernel
theorem dJ0_init_2_16 : decode cJ0_init_2 16 = .ok (.aload_n 0, 1) := by decide +kernel
theorem dJ0_init_2_17 : decode cJ0_init_2 17 = .ok (.getstatic 20, 3) := by decide +kernel
theorem dJ0_init_2_20 : decode cJ0_init_2 20 = .ok (.putfield 24, 3) := by decide +kernel
theorem dJ0_init_2_23 : decode cJ0_init_2 23 = .ok (.iload 4, 2) := by decide +kernel
theorem dJ0_init_2_25 : decode cJ0_init_2 25 = .ok (.ifCond .eq 11, 3) := by decide +kernel
theorem dJ0_init_2_28 : decode cJ0_init_2 28 = .ok (.aload_n 0, 1) := by decide +kernel
theorem dJ0_init_2_29 : decode cJ0_init_2 29 = .ok (.invokevirtual 27, 3) := by decide +kernel
theorem dJ0_init_2_32 : decode cJ0_init_2 32 = .ok (.pop, 1) := by decide +kernel
theorem dJ0_init_2_33 : decode cJ0_init_2 33 = .ok (.goto 8, 3) := by decide +kernel
theorem dJ0_init_2_36 : decode cJ0_init_2 36 = .ok (.aload_n 0, 1) := by decide +kernel
theorem dJ0_init_2_37 : decode cJ0_init_2 37 = .ok (.aconst_null, 1) := by decide +kernel
theorem dJ0_init_2_38 : decode cJ0_init_2 38 = .ok (.putfield 17, 3) := by decide +kernel
theorem dJ0_init_2_41 : decode cJ0_init_2 41 = .ok (.aload_n 0, 1) := by decide +kernel
theorem dJ0_init_2_42 : decode cJ0_init_2 42 = .ok (.aload_n 1, 1) := by decide +kernel
theorem dJ0_init_2_43 : decode cJ0_init_2 43 = .ok (.putfield 31, 3) := by decide +kernel
theorem dJ0_init_2_46 : decode cJ0_init_2 46 = .ok (.aload_n 0, 1) := by decide +kernel
theorem dJ0_init_2_47 : decode cJ0_init_2 47 = .ok (.aload_n 2, 1) := by decide +kernel
theorem dJ0_init_2_48 : decode cJ0_init_2 48 = .ok (.putfield 7, 3) := by decide +kernel
theorem dJ0_init_2_51 : decode cJ0_init_2 51 = .ok (.iload_n 3, 1) := by decide +kernel
theorem dJ0_init_2_52 : decode cJ0_init_2 52 = .ok (.ifCond .ne 8, 3) := by decide +kernel
theorem dJ0_init_2_55 : decode cJ0_init_2 55 = .ok (.aload_n 0, 1) := by decide +kernel
theorem dJ0_init_2_56 : decode cJ0_init_2 56 = .ok (.aconst_null, 1) := by decide +kernel
theorem dJ0_init_2_57 : decode cJ0_init_2 57 = .ok (.putfield 24, 3) := by decide +kernel
theorem dJ0_init_2_60 : decode cJ0_init_2 60 = .ok (.return_, 1) := by decide +kernel
theorem dJ0_init_3_0 : decode cJ0_init_3 0 = .ok (.aload_n 0, 1) := by decide +kernel
theorem dJ0_init_3_1 : decode cJ0_init_3 1 = .ok (.invokespecial 1, 3) := by decide +kernel
theorem dJ0_init_3_4 : decode cJ0_init_3 4 = .ok (.aload_n 0, 1) := by decide +kernel
theorem dJ0_init_3_5 : decode cJ0_init_3 5 = .ok (.aload_n 0, 1) := by decide +kernel
theorem dJ0_init_3_6 : decode cJ0_init_3 6 = .ok (.putfield 7, 3) := by decide +kernel
theorem dJ0_init_3_9 : decode cJ0_init_3 9 = .ok (.aload_n 0, 1) := by decide +kernel
theorem dJ0_init_3_10 : decode cJ0_init_3 10 = .ok (.getstatic 13, 3) := by decide +kernel
theorem dJ0_init_3_13 : decode cJ0_init_3 13 = .ok (.putfield 17, 3) := by decide +kernel
theorem dJ0_init_3_16 : decode cJ0_init_3 16 = .ok (.aload_n 0, 1) := by decide +kernel
theorem dJ0_init_3_17 : decode cJ0_init_3 17 = .ok (.getstatic 20, 3) := by decide +kernel
theorem dJ0_init_3_20 : decode cJ0_init_3 20 = .ok (.putfield 24, 3) := by decide +kernel
theorem dJ0_init_3_23 : decode cJ0_init_3 23 = .ok (.aload_n 0, 1) := by decide +kernel
theorem dJ0_init_3_24 : decode cJ0_init_3 24 = .ok (.invokevirtual 27, 3) := by decide +kernel
theorem dJ0_init_3_27 : decode cJ0_init_3 27 = .ok (.pop, 1) := by decide +kernel
theorem dJ0_init_3_28 : decode cJ0_init_3 28 = .ok (.aload_n 0, 1) := by decide +kernel
theorem dJ0_init_3_29 : decode cJ0_init_3 29 = .ok (.aload_n 1, 1) := by decide +kernel
theorem dJ0_init_3_30 : decode cJ0_init_3 30 = .ok (.putfield 31, 3) := by decide +kernel
theorem dJ0_init_3_33 : decode cJ0_init_3 33 = .ok (.return_, 1) := by decide +kernel
theorem dJ1_init_0 : decode cJ1_init 0 = .ok (.aload_n 0, 1) := by decide +kernel
theorem dJ1_init_1 : decode cJ1_init 1 = .ok (.aload_n 1, 1) := by decide +kernel
theorem dJ1_init_2 : decode cJ1_init 2 = .ok (.aload_n 2, 1) := by decide +kernel
theorem dJ1_init_3 : decode cJ1_init 3 = .ok (.iload_n 3, 1) := by decide +kernel
theorem dJ1_init_4 : decode cJ1_init 4 = .ok (.iload 4, 2) := by decide +kernel
theorem dJ1_init_6 : decode cJ1_init 6 = .ok (.invokespecial 16, 3) := by decide +kernel
theorem dJ1_init_9 : decode cJ1_init 9 = .ok (.return_, 1) := by decide +kernel
theorem dJ1_init_2_0 : decode cJ1_init_2 0 = .ok (.aload_n 0, 1) := by decide +kernel
theorem dJ1_init_2_1 : decode cJ1_init_2 1 = .ok (.aload_n 1, 1) := by decide +kernel
theorem dJ1_init_2_2 : decode cJ1_init_2 2 = .ok (.invokespecial 7, 3) := by decide +kernel
theorem dJ1_init_2_5 : decode cJ1_init_2 5 = .ok (.return_, 1) := by decide +kernel
theorem dJ1_init_3_0 : decode cJ1_init_3 0 = .ok (.aload_n 0, 1) := by decide +kernel
theorem dJ1_init_3_1 : decode cJ1_init_3 1 = .ok (.invokespecial 1, 3) := by decide +kernel
theorem dJ1_init_3_4 : decode cJ1_init_3 4 = .ok (.return_, 1) := by decide +kernel
theorem dJ2_init_0 : decode cJ2_init 0 = .ok (.aload_n 0, 1) := by decide +kernel
theorem dJ2_init_1 : decode cJ2_init 1 = .ok (.aload_n 1, 1) := by decide +kernel
theorem dJ2_init_2 : decode cJ2_init 2 = .ok (.aload_n 2, 1) := by decide +kernel
theorem dJ2_init_3 : decode cJ2_init 3 = .ok (.iload_n 3, 1) := by decide +kernel
theorem dJ2_init_4 : decode cJ2_init 4 = .ok (.iload 4, 2) := by decide +kernel
theorem dJ2_init_6 : decode cJ2_init 6 = .ok (.invokespecial 16, 3) := by decide +kernel
theorem dJ2_init_9 : decode cJ2_init 9 = .ok (.return_, 1) := by decide +kernel
theorem dJ2_init_2_0 : decode cJ2_init_2 0 = .ok (.aload_n 0, 1) := by decide +kernel
theorem dJ2_init_2_1 : decode cJ2_init_2 1 = .ok (.aload_n 1, 1) := by decide +kernel
theorem dJ2_init_2_2 : decode cJ2_init_2 2 = .ok (.invokespecial 7, 3) := by decide +kernel
theorem dJ2_init_2_5 : decode cJ2_init_2 5 = .ok (.return_, 1) := by decide +kernel
theorem dJ2_init_3_0 : decode cJ2_init_3 0 = .ok (.aload_n 0, 1) := by decide +kernel
theorem dJ2_init_3_1 : decode cJ2_init_3 1 = .ok (.invokespecial 1, 3) := by decide +kernel
theorem dJ2_init_3_4 : decode cJ2_init_3 4 = .ok (.return_, 1) := by decide +kernel
theorem dX4_init_0 : decode cX4_init 0 = .ok (.aload_n 0, 1) := by decide +kernel
theorem dX4_init_1 : decode cX4_init 1 = .ok (.aconst_null, 1) := by decide +kernel
theorem dX4_init_2 : decode cX4_init 2 = .ok (.aconst_null, 1) := by decide +kernel
theorem dX4_init_3 : decode cX4_init 3 = .ok (.iconst 0, 1) := by decide +kernel
theorem dX4_init_4 : decode cX4_init 4 = .ok (.iconst 0, 1) := by decide +kernel
theorem dX4_init_5 : decode cX4_init 5 = .ok (.invokespecial 1, 3) := by decide +kernel
theorem dX4_init_8 : decode cX4_init 8 = .ok (.return_, 1) := by decide +kernel
theorem dJ3_indexOf_0 : decode cJ3_indexOf 0 = .ok (.aload_n 0, 1) := by decide +kernel
theorem dJ3_indexOf_1 : decode cJ3_indexOf 1 = .ok (.iload_n 1, 1) := by decide +kernel
theorem dJ3_indexOf_2 : decode cJ3_indexOf 2 = .ok (.iconst 0, 1) := by decide +kernel
theorem dJ3_indexOf_3 : decode cJ3_indexOf 3 = .ok (.invokevirtual 633, 3) := by decide +kernel
theorem dJ3_indexOf_6 : decode cJ3_indexOf 6 = .ok (.ireturn, 1) := by decide +kernel
theorem dJ3_indexOf_2_0 : decode cJ3_indexOf_2 0 = .ok (.aload_n 0, 1) := by decide +kernel
theorem dJ3_indexOf_2_1 : decode cJ3_indexOf_2 1 = .ok (.invokevirtual 492, 3) := by decide +kernel
theorem dJ3_indexOf_2_4 : decode cJ3_indexOf_2 4 = .ok (.ifCond .eq 19, 3) := by decide +kernel
theorem dJ3_indexOf_2_7 : decode cJ3_indexOf_2 7 = .ok (.aload_n 0, 1) := by decide +kernel
theorem dJ3_indexOf_2_8 : decode cJ3_indexOf_2 8 = .ok (.getfield 9, 3) := by decide +kernel
theorem dJ3_indexOf_2_11 : decode cJ3_indexOf_2 11 = .ok (.iload_n 1, 1) := by decide +kernel
theorem dJ3_indexOf_2_12 : decode cJ3_indexOf_2 12 = .ok (.iload_n 2, 1) := by decide +kernel
theorem dJ3_indexOf_2_13 : decode cJ3_indexOf_2 13 = .ok (.aload_n 0, 1) := by decide +kernel
theorem dJ3_indexOf_2_14 : decode cJ3_indexOf_2 14 = .ok (.invokevirtual 505, 3) := by decide +kernel
theorem dJ3_indexOf_2_17 : decode cJ3_indexOf_2 17 = .ok (.invokestatic 637, 3) := by decide +kernel
theorem dJ3_indexOf_2_20 : decode cJ3_indexOf_2 20 = .ok (.goto 16, 3) := by decide +kernel
theorem dJ3_indexOf_2_23 : decode cJ3_indexOf_2 23 = .ok (.aload_n 0, 1) := by decide +kernel
theorem dJ3_indexOf_2_24 : decode cJ3_indexOf_2 24 = .ok (.getfield 9, 3) := by decide +kernel
theorem dJ3_indexOf_2_27 : decode cJ3_indexOf_2 27 = .ok (.iload_n 1, 1) := by decide +kernel
theorem dJ3_indexOf_2_28 : decode cJ3_indexOf_2 28 = .ok (.iload_n 2, 1) := by decide +kernel
theorem dJ3_indexOf_2_29 : decode cJ3_indexOf_2 29 = .ok (.aload_n 0, 1) := by decide +kernel
theorem dJ3_indexOf_2_30 : decode cJ3_indexOf_2 30 = .ok (.invokevirtual 505, 3) := by decide +kernel
theorem dJ3_indexOf_2_33 : decode cJ3_indexOf_2 33 = .ok (.invokestatic 640, 3) := by decide +kernel
theorem dJ3_indexOf_2_36 : decode cJ3_indexOf_2 36 = .ok (.ireturn, 1) := by decide +kernel
theorem dJ3_isLatin1_0 : decode cJ3_isLatin1 0 = .ok (.getstatic 38, 3) := by decide +kernel
theorem dJ3_isLatin1_3 : decode cJ3_isLatin1 3 = .ok (.ifCond .eq 14, 3) := by decide +kernel
theorem dJ3_isLatin1_6 : decode cJ3_isLatin1 6 = .ok (.aload_n 0, 1) := by decide +kernel
theorem dJ3_isLatin1_7 : decode cJ3_isLatin1 7 = .ok (.getfield 15, 3) := by decide +kernel
theorem dJ3_isLatin1_10 : decode cJ3_isLatin1 10 = .ok (.ifCond .ne 7, 3) := by decide +kernel
theorem dJ3_isLatin1_13 : decode cJ3_isLatin1 13 = .ok (.iconst 1, 1) := by decide +kernel
theorem dJ3_isLatin1_14 : decode cJ3_isLatin1 14 = .ok (.goto 4, 3) := by decide +kernel
theorem dJ3_isLatin1_17 : decode cJ3_isLatin1 17 = .ok (.iconst 0, 1) := by decide +kernel
theorem dJ3_isLatin1_18 : decode cJ3_isLatin1 18 = .ok (.ireturn, 1) := by decide +kernel
theorem dJ3_length_0 : decode cJ3_length 0 = .ok (.aload_n 0, 1) := by decide +kernel
theorem dJ3_length_1 : decode cJ3_length 1 = .ok (.getfield 9, 3) := by decide +kernel
theorem dJ3_length_4 : decode cJ3_length 4 = .ok (.arraylength, 1) := by decide +kernel
theorem dJ3_length_5 : decode cJ3_length 5 = .ok (.aload_n 0, 1) := by decide +kernel
theorem dJ3_length_6 : decode cJ3_length 6 = .ok (.invokevirtual 335, 3) := by decide +kernel
theorem dJ3_length_9 : decode cJ3_length 9 = .ok (.ishr, 1) := by decide +kernel
theorem dJ3_length_10 : decode cJ3_length 10 = .ok (.ireturn, 1) := by decide +kernel
theorem dJ3_coder_0 : decode cJ3_coder 0 = .ok (.getstatic 38, 3) := by decide +kernel
theorem dJ3_coder_3 : decode cJ3_coder 3 = .ok (.ifCond .eq 10, 3) := by decide +kernel
theorem dJ3_coder_6 : decode cJ3_coder 6 = .ok (.aload_n 0, 1) := by decide +kernel
theorem dJ3_coder_7 : decode cJ3_coder 7 = .ok (.getfield 15, 3) := by decide +kernel
theorem dJ3_coder_10 : decode cJ3_coder 10 = .ok (.goto 4, 3) := by decide +kernel
theorem dJ3_coder_13 : decode cJ3_coder 13 = .ok (.iconst 1, 1) := by decide +kernel
theorem dJ3_coder_14 : decode cJ3_coder 14 = .ok (.ireturn, 1) := by decide +kernel
theorem dJ3_checkBoundsBeginEnd_0 : decode cJ3_checkBoundsBeginEnd 0 = .ok (.iload_n 0, 1) := by decide +kernel
theorem dJ3_checkBoundsBeginEnd_1 : decode cJ3_checkBoundsBeginEnd 1 = .ok (.iload_n 1, 1) := by decide +kernel
theorem dJ3_checkBoundsBeginEnd_2 : decode cJ3_checkBoundsBeginEnd 2 = .ok (.iload_n 2, 1) := by decide +kernel
theorem dJ3_checkBoundsBeginEnd_3 : decode cJ3_checkBoundsBeginEnd 3 = .ok (.getstatic 1053, 3) := by decide +kernel
theorem dJ3_checkBoundsBeginEnd_6 : decode cJ3_checkBoundsBeginEnd 6 = .ok (.invokestatic 1062, 3) := by decide +kernel
theorem dJ3_checkBoundsBeginEnd_9 : decode cJ3_checkBoundsBeginEnd 9 = .ok (.pop, 1) := by decide +kernel
theorem dJ3_checkBoundsBeginEnd_10 : decode cJ3_checkBoundsBeginEnd 10 = .ok (.return_, 1) := by decide +kernel
theorem dJ4_indexOf_0 : decode cJ4_indexOf 0 = .ok (.iload_n 1, 1) := by decide +kernel
theorem dJ4_indexOf_1 : decode cJ4_indexOf 1 = .ok (.invokestatic 88, 3) := by decide +kernel
theorem dJ4_indexOf_4 : decode cJ4_indexOf 4 = .ok (.ifCond .ne 5, 3) := by decide +kernel
theorem dJ4_indexOf_7 : decode cJ4_indexOf 7 = .ok (.iconst (-1), 1) := by decide +kernel
theorem dJ4_indexOf_8 : decode cJ4_indexOf 8 = .ok (.ireturn, 1) := by decide +kernel
theorem dJ4_indexOf_9 : decode cJ4_indexOf 9 = .ok (.iload_n 2, 1) := by decide +kernel
theorem dJ4_indexOf_10 : decode cJ4_indexOf 10 = .ok (.iconst 0, 1) := by decide +kernel
theorem dJ4_indexOf_11 : decode cJ4_indexOf 11 = .ok (.invokestatic 92, 3) := by decide +kernel
theorem dJ4_indexOf_14 : decode cJ4_indexOf 14 = .ok (.istore_n 2, 1) := by decide +kernel
theorem dJ4_indexOf_15 : decode cJ4_indexOf 15 = .ok (.iload_n 3, 1) := by decide +kernel
theorem dJ4_indexOf_16 : decode cJ4_indexOf 16 = .ok (.aload_n 0, 1) := by decide +kernel
theorem dJ4_indexOf_17 : decode cJ4_indexOf 17 = .ok (.arraylength, 1) := by decide +kernel
theorem dJ4_indexOf_18 : decode cJ4_indexOf 18 = .ok (.invokestatic 38, 3) := by decide +kernel
theorem dJ4_indexOf_21 : decode cJ4_indexOf 21 = .ok (.istore_n 3, 1) := by decide +kernel
theorem dJ4_indexOf_22 : decode cJ4_indexOf 22 = .ok (.iload_n 2, 1) := by decide +kernel
theorem dJ4_indexOf_23 : decode cJ4_indexOf 23 = .ok (.iload_n 3, 1) := by decide +kernel
theorem dJ4_indexOf_24 : decode cJ4_indexOf 24 = .ok (.if_icmp .lt 5, 3) := by decide +kernel
theorem dJ4_indexOf_27 : decode cJ4_indexOf 27 = .ok (.iconst (-1), 1) := by decide +kernel
theorem dJ4_indexOf_28 : decode cJ4_indexOf 28 = .ok (.ireturn, 1) := by decide +kernel
theorem dJ4_indexOf_29 : decode cJ4_indexOf 29 = .ok (.aload_n 0, 1) := by decide +kernel
theorem dJ4_indexOf_30 : decode cJ4_indexOf 30 = .ok (.iload_n 1, 1) := by decide +kernel
theorem dJ4_indexOf_31 : decode cJ4_indexOf 31 = .ok (.iload_n 2, 1) := by decide +kernel
theorem dJ4_indexOf_32 : decode cJ4_indexOf 32 = .ok (.iload_n 3, 1) := by decide +kernel
theorem dJ4_indexOf_33 : decode cJ4_indexOf 33 = .ok (.invokestatic 95, 3) := by decide +kernel
theorem dJ4_indexOf_36 : decode cJ4_indexOf 36 = .ok (.ireturn, 1) := by decide +kernel
theorem dJ4_canEncode_0 : decode cJ4_canEncode 0 = .ok (.iload_n 0, 1) := by decide +kernel
theorem dJ4_canEncode_1 : decode cJ4_canEncode 1 = .ok (.ifCond .lt 14, 3) := by decide +kernel
theorem dJ4_canEncode_4 : decode cJ4_canEncode 4 = .ok (.iload_n 0, 1) := by decide +kernel
theorem dJ4_canEncode_5 : decode cJ4_canEncode 5 = .ok (.sipush 255, 3) := by decide +kernel
theorem dJ4_canEncode_8 : decode cJ4_canEncode 8 = .ok (.if_icmp .gt 7, 3) := by decide +kernel
theorem dJ4_canEncode_11 : decode cJ4_canEncode 11 = .ok (.iconst 1, 1) := by decide +kernel
theorem dJ4_canEncode_12 : decode cJ4_canEncode 12 = .ok (.goto 4, 3) := by decide +kernel
theorem dJ4_canEncode_15 : decode cJ4_canEncode 15 = .ok (.iconst 0, 1) := by decide +kernel
theorem dJ4_canEncode_16 : decode cJ4_canEncode 16 = .ok (.ireturn, 1) := by decide +kernel
theorem dJ4_indexOfChar_0 : decode cJ4_indexOfChar 0 = .ok (.iload_n 1, 1) := by decide +kernel
theorem dJ4_indexOfChar_1 : decode cJ4_indexOfChar 1 = .ok (.i2b, 1) := by decide +kernel
theorem dJ4_indexOfChar_2 : decode cJ4_indexOfChar 2 = .ok (.istore 4, 2) := by decide +kernel
theorem dJ4_indexOfChar_4 : decode cJ4_indexOfChar 4 = .ok (.iload_n 2, 1) := by decide +kernel
theorem dJ4_indexOfChar_5 : decode cJ4_indexOfChar 5 = .ok (.istore 5, 2) := by decide +kernel
theorem dJ4_indexOfChar_7 : decode cJ4_indexOfChar 7 = .ok (.iload 5, 2) := by decide +kernel
theorem dJ4_indexOfChar_9 : decode cJ4_indexOfChar 9 = .ok (.iload_n 3, 1) := by decide +kernel
theorem dJ4_indexOfChar_10 : decode cJ4_indexOfChar 10 = .ok (.if_icmp .ge 21, 3) := by decide +kernel
theorem dJ4_indexOfChar_13 : decode cJ4_indexOfChar 13 = .ok (.aload_n 0, 1) := by decide +kernel
theorem dJ4_indexOfChar_14 : decode cJ4_indexOfChar 14 = .ok (.iload 5, 2) := by decide +kernel
theorem dJ4_indexOfChar_16 : decode cJ4_indexOfChar 16 = .ok (.baload, 1) := by decide +kernel
theorem dJ4_indexOfChar_17 : decode cJ4_indexOfChar 17 = .ok (.iload 4, 2) := by decide +kernel
theorem dJ4_indexOfChar_19 : decode cJ4_indexOfChar 19 = .ok (.if_icmp .ne 6, 3) := by decide +kernel
theorem dJ4_indexOfChar_22 : decode cJ4_indexOfChar 22 = .ok (.iload 5, 2) := by decide +kernel
theorem dJ4_indexOfChar_24 : decode cJ4_indexOfChar 24 = .ok (.ireturn, 1) := by decide +kernel
theorem dJ4_indexOfChar_25 : decode cJ4_indexOfChar 25 = .ok (.iinc 5 1, 3) := by decide +kernel
theorem dJ4_indexOfChar_28 : decode cJ4_indexOfChar 28 = .ok (.goto (-21), 3) := by decide +kernel
theorem dJ4_indexOfChar_31 : decode cJ4_indexOfChar 31 = .ok (.iconst (-1), 1) := by decide +kernel
theorem dJ4_indexOfChar_32 : decode cJ4_indexOfChar 32 = .ok (.ireturn, 1) := by decide +kernel
theorem dJ5_max_0 : decode cJ5_max 0 = .ok (.iload_n 0, 1) := by decide +kernel
theorem dJ5_max_1 : decode cJ5_max 1 = .ok (.iload_n 1, 1) := by decide +kernel
theorem dJ5_max_2 : decode cJ5_max 2 = .ok (.if_icmp .lt 7, 3) := by decide +kernel
theorem dJ5_max_5 : decode cJ5_max 5 = .ok (.iload_n 0, 1) := by decide +kernel
theorem dJ5_max_6 : decode cJ5_max 6 = .ok (.goto 4, 3) := by decide +kernel
theorem dJ5_max_9 : decode cJ5_max 9 = .ok (.iload_n 1, 1) := by decide +kernel
theorem dJ5_max_10 : decode cJ5_max 10 = .ok (.ireturn, 1) := by decide +kernel
theorem dJ5_min_0 : decode cJ5_min 0 = .ok (.iload_n 0, 1) := by decide +kernel
theorem dJ5_min_1 : decode cJ5_min 1 = .ok (.iload_n 1, 1) := by decide +kernel
theorem dJ5_min_2 : decode cJ5_min 2 = .ok (.if_icmp .gt 7, 3) := by decide +kernel
theorem dJ5_min_5 : decode cJ5_min 5 = .ok (.iload_n 0, 1) := by decide +kernel
theorem dJ5_min_6 : decode cJ5_min 6 = .ok (.goto 4, 3) := by decide +kernel
theorem dJ5_min_9 : decode cJ5_min 9 = .ok (.iload_n 1, 1) := by decide +kernel
theorem dJ5_min_10 : decode cJ5_min 10 = .ok (.ireturn, 1) := by decide +kernel
theorem dJ6_indexOf_0 : decode cJ6_indexOf 0 = .ok (.iload_n 2, 1) := by decide +kernel
theorem dJ6_indexOf_1 : decode cJ6_indexOf 1 = .ok (.iconst 0, 1) := by decide +kernel
theorem dJ6_indexOf_2 : decode cJ6_indexOf 2 = .ok (.invokestatic 224, 3) := by decide +kernel
theorem dJ6_indexOf_5 : decode cJ6_indexOf 5 = .ok (.istore_n 2, 1) := by decide +kernel
theorem dJ6_indexOf_6 : decode cJ6_indexOf 6 = .ok (.iload_n 3, 1) := by decide +kernel
theorem dJ6_indexOf_7 : decode cJ6_indexOf 7 = .ok (.aload_n 0, 1) := by decide +kernel
theorem dJ6_indexOf_8 : decode cJ6_indexOf 8 = .ok (.arraylength, 1) := by decide +kernel
theorem dJ6_indexOf_9 : decode cJ6_indexOf 9 = .ok (.iconst 1, 1) := by decide +kernel
theorem dJ6_indexOf_10 : decode cJ6_indexOf 10 = .ok (.ishr, 1) := by decide +kernel
theorem dJ6_indexOf_11 : decode cJ6_indexOf 11 = .ok (.invokestatic 183, 3) := by decide +kernel
theorem dJ6_indexOf_14 : decode cJ6_indexOf 14 = .ok (.istore_n 3, 1) := by decide +kernel
theorem dJ6_indexOf_15 : decode cJ6_indexOf 15 = .ok (.iload_n 2, 1) := by decide +kernel
theorem dJ6_indexOf_16 : decode cJ6_indexOf 16 = .ok (.iload_n 3, 1) := by decide +kernel
theorem dJ6_indexOf_17 : decode cJ6_indexOf 17 = .ok (.if_icmp .lt 5, 3) := by decide +kernel
theorem dJ6_indexOf_20 : decode cJ6_indexOf 20 = .ok (.iconst (-1), 1) := by decide +kernel
theorem dJ6_indexOf_21 : decode cJ6_indexOf 21 = .ok (.ireturn, 1) := by decide +kernel
theorem dJ6_indexOf_22 : decode cJ6_indexOf 22 = .ok (.iload_n 1, 1) := by decide +kernel
theorem dJ6_indexOf_23 : decode cJ6_indexOf 23 = .ok (.ldc 227, 2) := by decide +kernel
theorem dJ6_indexOf_25 : decode cJ6_indexOf 25 = .ok (.if_icmp .ge 11, 3) := by decide +kernel
theorem dJ6_indexOf_28 : decode cJ6_indexOf 28 = .ok (.aload_n 0, 1) := by decide +kernel
theorem dJ6_indexOf_29 : decode cJ6_indexOf 29 = .ok (.iload_n 1, 1) := by decide +kernel
theorem dJ6_indexOf_30 : decode cJ6_indexOf 30 = .ok (.iload_n 2, 1) := by decide +kernel
theorem dJ6_indexOf_31 : decode cJ6_indexOf 31 = .ok (.iload_n 3, 1) := by decide +kernel
theorem dJ6_indexOf_32 : decode cJ6_indexOf 32 = .ok (.invokestatic 228, 3) := by decide +kernel
theorem dJ6_indexOf_35 : decode cJ6_indexOf 35 = .ok (.ireturn, 1) := by decide +kernel
theorem dJ6_indexOf_36 : decode cJ6_indexOf 36 = .ok (.aload_n 0, 1) := by decide +kernel
theorem dJ6_indexOf_37 : decode cJ6_indexOf 37 = .ok (.iload_n 1, 1) := by decide +kernel
theorem dJ6_indexOf_38 : decode cJ6_indexOf 38 = .ok (.iload_n 2, 1) := by decide +kernel
theorem dJ6_indexOf_39 : decode cJ6_indexOf 39 = .ok (.iload_n 3, 1) := by decide +kernel
theorem dJ6_indexOf_40 : decode cJ6_indexOf 40 = .ok (.invokestatic 232, 3) := by decide +kernel
theorem dJ6_indexOf_43 : decode cJ6_indexOf 43 = .ok (.ireturn, 1) := by decide +kernel
theorem dJ6_indexOfChar_0 : decode cJ6_indexOfChar 0 = .ok (.iload_n 2, 1) := by decide +kernel
theorem dJ6_indexOfChar_1 : decode cJ6_indexOfChar 1 = .ok (.iload_n 3, 1) := by decide +kernel
theorem dJ6_indexOfChar_2 : decode cJ6_indexOfChar 2 = .ok (.aload_n 0, 1) := by decide +kernel
theorem dJ6_indexOfChar_3 : decode cJ6_indexOfChar 3 = .ok (.invokestatic 96, 3) := by decide +kernel
theorem dJ6_indexOfChar_6 : decode cJ6_indexOfChar 6 = .ok (.aload_n 0, 1) := by decide +kernel
theorem dJ6_indexOfChar_7 : decode cJ6_indexOfChar 7 = .ok (.iload_n 1, 1) := by decide +kernel
theorem dJ6_indexOfChar_8 : decode cJ6_indexOfChar 8 = .ok (.iload_n 2, 1) := by decide +kernel
theorem dJ6_indexOfChar_9 : decode cJ6_indexOfChar 9 = .ok (.iload_n 3, 1) := by decide +kernel
theorem dJ6_indexOfChar_10 : decode cJ6_indexOfChar 10 = .ok (.invokestatic 244, 3) := by decide +kernel
theorem dJ6_indexOfChar_13 : decode cJ6_indexOfChar 13 = .ok (.ireturn, 1) := by decide +kernel
theorem dJ6_checkBoundsBeginEnd_0 : decode cJ6_checkBoundsBeginEnd 0 = .ok (.iload_n 0, 1) := by decide +kernel
theorem dJ6_checkBoundsBeginEnd_1 : decode cJ6_checkBoundsBeginEnd 1 = .ok (.iload_n 1, 1) := by decide +kernel
theorem dJ6_checkBoundsBeginEnd_2 : decode cJ6_checkBoundsBeginEnd 2 = .ok (.aload_n 2, 1) := by decide +kernel
theorem dJ6_checkBoundsBeginEnd_3 : decode cJ6_checkBoundsBeginEnd 3 = .ok (.invokestatic 48, 3) := by decide +kernel
theorem dJ6_checkBoundsBeginEnd_6 : decode cJ6_checkBoundsBeginEnd 6 = .ok (.invokestatic 241, 3) := by decide +kernel
theorem dJ6_checkBoundsBeginEnd_9 : decode cJ6_checkBoundsBeginEnd 9 = .ok (.return_, 1) := by decide +kernel
theorem dJ6_length_0 : decode cJ6_length 0 = .ok (.aload_n 0, 1) := by decide +kernel
theorem dJ6_length_1 : decode cJ6_length 1 = .ok (.arraylength, 1) := by decide +kernel
theorem dJ6_length_2 : decode cJ6_length 2 = .ok (.iconst 1, 1) := by decide +kernel
theorem dJ6_length_3 : decode cJ6_length 3 = .ok (.ishr, 1) := by decide +kernel
theorem dJ6_length_4 : decode cJ6_length 4 = .ok (.ireturn, 1) := by decide +kernel
theorem dJ6_indexOfCharUnsafe_0 : decode cJ6_indexOfCharUnsafe 0 = .ok (.iload_n 2, 1) := by decide +kernel
theorem dJ6_indexOfCharUnsafe_1 : decode cJ6_indexOfCharUnsafe 1 = .ok (.istore 4, 2) := by decide +kernel
theorem dJ6_indexOfCharUnsafe_3 : decode cJ6_indexOfCharUnsafe 3 = .ok (.iload 4, 2) := by decide +kernel
theorem dJ6_indexOfCharUnsafe_5 : decode cJ6_indexOfCharUnsafe 5 = .ok (.iload_n 3, 1) := by decide +kernel
theorem dJ6_indexOfCharUnsafe_6 : decode cJ6_indexOfCharUnsafe 6 = .ok (.if_icmp .ge 22, 3) := by decide +kernel
theorem dJ6_indexOfCharUnsafe_9 : decode cJ6_indexOfCharUnsafe 9 = .ok (.aload_n 0, 1) := by decide +kernel
theorem dJ6_indexOfCharUnsafe_10 : decode cJ6_indexOfCharUnsafe 10 = .ok (.iload 4, 2) := by decide +kernel
theorem dJ6_indexOfCharUnsafe_12 : decode cJ6_indexOfCharUnsafe 12 = .ok (.invokestatic 71, 3) := by decide +kernel
theorem dJ6_indexOfCharUnsafe_15 : decode cJ6_indexOfCharUnsafe 15 = .ok (.iload_n 1, 1) := by decide +kernel
theorem dJ6_indexOfCharUnsafe_16 : decode cJ6_indexOfCharUnsafe 16 = .ok (.if_icmp .ne 6, 3) := by decide +kernel
theorem dJ6_indexOfCharUnsafe_19 : decode cJ6_indexOfCharUnsafe 19 = .ok (.iload 4, 2) := by decide +kernel
theorem dJ6_indexOfCharUnsafe_21 : decode cJ6_indexOfCharUnsafe 21 = .ok (.ireturn, 1) := by decide +kernel
theorem dJ6_indexOfCharUnsafe_22 : decode cJ6_indexOfCharUnsafe 22 = .ok (.iinc 4 1, 3) := by decide +kernel
theorem dJ6_indexOfCharUnsafe_25 : decode cJ6_indexOfCharUnsafe 25 = .ok (.goto (-22), 3) := by decide +kernel
theorem dJ6_indexOfCharUnsafe_28 : decode cJ6_indexOfCharUnsafe 28 = .ok (.iconst (-1), 1) := by decide +kernel
theorem dJ6_indexOfCharUnsafe_29 : decode cJ6_indexOfCharUnsafe 29 = .ok (.ireturn, 1) := by decide +kernel
theorem dJ6_getChar_0 : decode cJ6_getChar 0 = .ok (.getstatic 44, 3) := by decide +kernel
theorem dJ6_getChar_3 : decode cJ6_getChar 3 = .ok (.ifCond .ne 25, 3) := by decide +kernel
theorem dJ6_getChar_6 : decode cJ6_getChar 6 = .ok (.iload_n 1, 1) := by decide +kernel
theorem dJ6_getChar_7 : decode cJ6_getChar 7 = .ok (.ifCond .lt 11, 3) := by decide +kernel
theorem dJ6_getChar_10 : decode cJ6_getChar 10 = .ok (.iload_n 1, 1) := by decide +kernel
theorem dJ6_getChar_11 : decode cJ6_getChar 11 = .ok (.aload_n 0, 1) := by decide +kernel
theorem dJ6_getChar_12 : decode cJ6_getChar 12 = .ok (.invokestatic 48, 3) := by decide +kernel
theorem dJ6_getChar_15 : decode cJ6_getChar 15 = .ok (.if_icmp .lt 13, 3) := by decide +kernel
theorem dJ6_getChar_18 : decode cJ6_getChar 18 = .ok (.new 52, 3) := by decide +kernel
theorem dJ6_getChar_21 : decode cJ6_getChar 21 = .ok (.dup, 1) := by decide +kernel
theorem dJ6_getChar_22 : decode cJ6_getChar 22 = .ok (.ldc 54, 2) := by decide +kernel
theorem dJ6_getChar_24 : decode cJ6_getChar 24 = .ok (.invokespecial 56, 3) := by decide +kernel
theorem dJ6_getChar_27 : decode cJ6_getChar 27 = .ok (.athrow, 1) := by decide +kernel
theorem dJ6_getChar_28 : decode cJ6_getChar 28 = .ok (.iload_n 1, 1) := by decide +kernel
theorem dJ6_getChar_29 : decode cJ6_getChar 29 = .ok (.iconst 1, 1) := by decide +kernel
theorem dJ6_getChar_30 : decode cJ6_getChar 30 = .ok (.ishl, 1) := by decide +kernel
theorem dJ6_getChar_31 : decode cJ6_getChar 31 = .ok (.istore_n 1, 1) := by decide +kernel
theorem dJ6_getChar_32 : decode cJ6_getChar 32 = .ok (.aload_n 0, 1) := by decide +kernel
theorem dJ6_getChar_33 : decode cJ6_getChar 33 = .ok (.iload_n 1, 1) := by decide +kernel
theorem dJ6_getChar_34 : decode cJ6_getChar 34 = .ok (.iinc 1 1, 3) := by decide +kernel
theorem dJ6_getChar_37 : decode cJ6_getChar 37 = .ok (.baload, 1) := by decide +kernel
theorem dJ6_getChar_38 : decode cJ6_getChar 38 = .ok (.sipush 255, 3) := by decide +kernel
theorem dJ6_getChar_41 : decode cJ6_getChar 41 = .ok (.iand, 1) := by decide +kernel
theorem dJ6_getChar_42 : decode cJ6_getChar 42 = .ok (.getstatic 59, 3) := by decide +kernel
theorem dJ6_getChar_45 : decode cJ6_getChar 45 = .ok (.ishl, 1) := by decide +kernel
theorem dJ6_getChar_46 : decode cJ6_getChar 46 = .ok (.aload_n 0, 1) := by decide +kernel
theorem dJ6_getChar_47 : decode cJ6_getChar 47 = .ok (.iload_n 1, 1) := by decide +kernel
theorem dJ6_getChar_48 : decode cJ6_getChar 48 = .ok (.baload, 1) := by decide +kernel
theorem dJ6_getChar_49 : decode cJ6_getChar 49 = .ok (.sipush 255, 3) := by decide +kernel
theorem dJ6_getChar_52 : decode cJ6_getChar 52 = .ok (.iand, 1) := by decide +kernel
theorem dJ6_getChar_53 : decode cJ6_getChar 53 = .ok (.getstatic 63, 3) := by decide +kernel
theorem dJ6_getChar_56 : decode cJ6_getChar 56 = .ok (.ishl, 1) := by decide +kernel
theorem dJ6_getChar_57 : decode cJ6_getChar 57 = .ok (.ior, 1) := by decide +kernel
theorem dJ6_getChar_58 : decode cJ6_getChar 58 = .ok (.i2c, 1) := by decide +kernel
theorem dJ6_getChar_59 : decode cJ6_getChar 59 = .ok (.ireturn, 1) := by decide +kernel
theorem dJ6_indexOfSupplementary_0 : decode cJ6_indexOfSupplementary 0 = .ok (.iload_n 1, 1) := by decide +kernel
theorem dJ6_indexOfSupplementary_1 : decode cJ6_indexOfSupplementary 1 = .ok (.invokestatic 164, 3) := by decide +kernel
theorem dJ6_indexOfSupplementary_4 : decode cJ6_indexOfSupplementary 4 = .ok (.ifCond .eq 65, 3) := by decide +kernel
theorem dJ6_indexOfSupplementary_7 : decode cJ6_indexOfSupplementary 7 = .ok (.iload_n 1, 1) := by decide +kernel
theorem dJ6_indexOfSupplementary_8 : decode cJ6_indexOfSupplementary 8 = .ok (.invokestatic 157, 3) := by decide +kernel
theorem dJ6_indexOfSupplementary_11 : decode cJ6_indexOfSupplementary 11 = .ok (.istore 4, 2) := by decide +kernel
theorem dJ6_indexOfSupplementary_13 : decode cJ6_indexOfSupplementary 13 = .ok (.iload_n 1, 1) := by decide +kernel
theorem dJ6_indexOfSupplementary_14 : decode cJ6_indexOfSupplementary 14 = .ok (.invokestatic 161, 3) := by decide +kernel
theorem dJ6_indexOfSupplementary_17 : decode cJ6_indexOfSupplementary 17 = .ok (.istore 5, 2) := by decide +kernel
theorem dJ6_indexOfSupplementary_19 : decode cJ6_indexOfSupplementary 19 = .ok (.iload_n 2, 1) := by decide +kernel
theorem dJ6_indexOfSupplementary_20 : decode cJ6_indexOfSupplementary 20 = .ok (.iload_n 3, 1) := by decide +kernel
theorem dJ6_indexOfSupplementary_21 : decode cJ6_indexOfSupplementary 21 = .ok (.aload_n 0, 1) := by decide +kernel
theorem dJ6_indexOfSupplementary_22 : decode cJ6_indexOfSupplementary 22 = .ok (.invokestatic 96, 3) := by decide +kernel
theorem dJ6_indexOfSupplementary_25 : decode cJ6_indexOfSupplementary 25 = .ok (.iload_n 2, 1) := by decide +kernel
theorem dJ6_indexOfSupplementary_26 : decode cJ6_indexOfSupplementary 26 = .ok (.istore 6, 2) := by decide +kernel
theorem dJ6_indexOfSupplementary_28 : decode cJ6_indexOfSupplementary 28 = .ok (.iload 6, 2) := by decide +kernel
theorem dJ6_indexOfSupplementary_30 : decode cJ6_indexOfSupplementary 30 = .ok (.iload_n 3, 1) := by decide +kernel
theorem dJ6_indexOfSupplementary_31 : decode cJ6_indexOfSupplementary 31 = .ok (.iconst 1, 1) := by decide +kernel
theorem dJ6_indexOfSupplementary_32 : decode cJ6_indexOfSupplementary 32 = .ok (.isub, 1) := by decide +kernel
theorem dJ6_indexOfSupplementary_33 : decode cJ6_indexOfSupplementary 33 = .ok (.if_icmp .ge 36, 3) := by decide +kernel
theorem dJ6_indexOfSupplementary_36 : decode cJ6_indexOfSupplementary 36 = .ok (.aload_n 0, 1) := by decide +kernel
theorem dJ6_indexOfSupplementary_37 : decode cJ6_indexOfSupplementary 37 = .ok (.iload 6, 2) := by decide +kernel
theorem dJ6_indexOfSupplementary_39 : decode cJ6_indexOfSupplementary 39 = .ok (.invokestatic 71, 3) := by decide +kernel
theorem dJ6_indexOfSupplementary_42 : decode cJ6_indexOfSupplementary 42 = .ok (.iload 4, 2) := by decide +kernel
theorem dJ6_indexOfSupplementary_44 : decode cJ6_indexOfSupplementary 44 = .ok (.if_icmp .ne 19, 3) := by decide +kernel
theorem dJ6_indexOfSupplementary_47 : decode cJ6_indexOfSupplementary 47 = .ok (.aload_n 0, 1) := by decide +kernel
theorem dJ6_indexOfSupplementary_48 : decode cJ6_indexOfSupplementary 48 = .ok (.iload 6, 2) := by decide +kernel
theorem dJ6_indexOfSupplementary_50 : decode cJ6_indexOfSupplementary 50 = .ok (.iconst 1, 1) := by decide +kernel
theorem dJ6_indexOfSupplementary_51 : decode cJ6_indexOfSupplementary 51 = .ok (.iadd, 1) := by decide +kernel
theorem dJ6_indexOfSupplementary_52 : decode cJ6_indexOfSupplementary 52 = .ok (.invokestatic 71, 3) := by decide +kernel
theorem dJ6_indexOfSupplementary_55 : decode cJ6_indexOfSupplementary 55 = .ok (.iload 5, 2) := by decide +kernel
theorem dJ6_indexOfSupplementary_57 : decode cJ6_indexOfSupplementary 57 = .ok (.if_icmp .ne 6, 3) := by decide +kernel
theorem dJ6_indexOfSupplementary_60 : decode cJ6_indexOfSupplementary 60 = .ok (.iload 6, 2) := by decide +kernel
theorem dJ6_indexOfSupplementary_62 : decode cJ6_indexOfSupplementary 62 = .ok (.ireturn, 1) := by decide +kernel
theorem dJ6_indexOfSupplementary_63 : decode cJ6_indexOfSupplementary 63 = .ok (.iinc 6 1, 3) := by decide +kernel
theorem dJ6_indexOfSupplementary_66 : decode cJ6_indexOfSupplementary 66 = .ok (.goto (-38), 3) := by decide +kernel
theorem dJ6_indexOfSupplementary_69 : decode cJ6_indexOfSupplementary 69 = .ok (.iconst (-1), 1) := by decide +kernel
theorem dJ6_indexOfSupplementary_70 : decode cJ6_indexOfSupplementary 70 = .ok (.ireturn, 1) := by decide +kernel
theorem dJ7_checkFromToIndex_0 : decode cJ7_checkFromToIndex 0 = .ok (.iload_n 0, 1) := by decide +kernel
theorem dJ7_checkFromToIndex_1 : decode cJ7_checkFromToIndex 1 = .ok (.ifCond .lt 13, 3) := by decide +kernel
theorem dJ7_checkFromToIndex_4 : decode cJ7_checkFromToIndex 4 = .ok (.iload_n 0, 1) := by decide +kernel
theorem dJ7_checkFromToIndex_5 : decode cJ7_checkFromToIndex 5 = .ok (.iload_n 1, 1) := by decide +kernel
theorem dJ7_checkFromToIndex_6 : decode cJ7_checkFromToIndex 6 = .ok (.if_icmp .gt 8, 3) := by decide +kernel
theorem dJ7_checkFromToIndex_9 : decode cJ7_checkFromToIndex 9 = .ok (.iload_n 1, 1) := by decide +kernel
theorem dJ7_checkFromToIndex_10 : decode cJ7_checkFromToIndex 10 = .ok (.iload_n 2, 1) := by decide +kernel
theorem dJ7_checkFromToIndex_11 : decode cJ7_checkFromToIndex 11 = .ok (.if_icmp .le 11, 3) := by decide +kernel
theorem dJ7_checkFromToIndex_14 : decode cJ7_checkFromToIndex 14 = .ok (.aload_n 3, 1) := by decide +kernel
theorem dJ7_checkFromToIndex_15 : decode cJ7_checkFromToIndex 15 = .ok (.iload_n 0, 1) := by decide +kernel
theorem dJ7_checkFromToIndex_16 : decode cJ7_checkFromToIndex 16 = .ok (.iload_n 1, 1) := by decide +kernel
theorem dJ7_checkFromToIndex_17 : decode cJ7_checkFromToIndex 17 = .ok (.iload_n 2, 1) := by decide +kernel
theorem dJ7_checkFromToIndex_18 : decode cJ7_checkFromToIndex 18 = .ok (.invokestatic 99, 3) := by decide +kernel
theorem dJ7_checkFromToIndex_21 : decode cJ7_checkFromToIndex 21 = .ok (.athrow, 1) := by decide +kernel
theorem dJ7_checkFromToIndex_22 : decode cJ7_checkFromToIndex 22 = .ok (.iload_n 0, 1) := by decide +kernel
theorem dJ7_checkFromToIndex_23 : decode cJ7_checkFromToIndex 23 = .ok (.ireturn, 1) := by decide +kernel
theorem dJ8_isValidCodePoint_0 : decode cJ8_isValidCodePoint 0 = .ok (.iload_n 0, 1) := by decide +kernel
theorem dJ8_isValidCodePoint_1 : decode cJ8_isValidCodePoint 1 = .ok (.bipush 16, 2) := by decide +kernel
theorem dJ8_isValidCodePoint_3 : decode cJ8_isValidCodePoint 3 = .ok (.iushr, 1) := by decide +kernel
theorem dJ8_isValidCodePoint_4 : decode cJ8_isValidCodePoint 4 = .ok (.istore_n 1, 1) := by decide +kernel
theorem dJ8_isValidCodePoint_5 : decode cJ8_isValidCodePoint 5 = .ok (.iload_n 1, 1) := by decide +kernel
theorem dJ8_isValidCodePoint_6 : decode cJ8_isValidCodePoint 6 = .ok (.bipush 17, 2) := by decide +kernel
theorem dJ8_isValidCodePoint_8 : decode cJ8_isValidCodePoint 8 = .ok (.if_icmp .ge 7, 3) := by decide +kernel
theorem dJ8_isValidCodePoint_11 : decode cJ8_isValidCodePoint 11 = .ok (.iconst 1, 1) := by decide +kernel
theorem dJ8_isValidCodePoint_12 : decode cJ8_isValidCodePoint 12 = .ok (.goto 4, 3) := by decide +kernel
theorem dJ8_isValidCodePoint_15 : decode cJ8_isValidCodePoint 15 = .ok (.iconst 0, 1) := by decide +kernel
theorem dJ8_isValidCodePoint_16 : decode cJ8_isValidCodePoint 16 = .ok (.ireturn, 1) := by decide +kernel
theorem dJ8_highSurrogate_0 : decode cJ8_highSurrogate 0 = .ok (.iload_n 0, 1) := by decide +kernel
theorem dJ8_highSurrogate_1 : decode cJ8_highSurrogate 1 = .ok (.bipush 10, 2) := by decide +kernel
theorem dJ8_highSurrogate_3 : decode cJ8_highSurrogate 3 = .ok (.iushr, 1) := by decide +kernel
theorem dJ8_highSurrogate_4 : decode cJ8_highSurrogate 4 = .ok (.ldc 110, 2) := by decide +kernel
theorem dJ8_highSurrogate_6 : decode cJ8_highSurrogate 6 = .ok (.iadd, 1) := by decide +kernel
theorem dJ8_highSurrogate_7 : decode cJ8_highSurrogate 7 = .ok (.i2c, 1) := by decide +kernel
theorem dJ8_highSurrogate_8 : decode cJ8_highSurrogate 8 = .ok (.ireturn, 1) := by decide +kernel
theorem dJ8_lowSurrogate_0 : decode cJ8_lowSurrogate 0 = .ok (.iload_n 0, 1) := by decide +kernel
theorem dJ8_lowSurrogate_1 : decode cJ8_lowSurrogate 1 = .ok (.sipush 1023, 3) := by decide +kernel
theorem dJ8_lowSurrogate_4 : decode cJ8_lowSurrogate 4 = .ok (.iand, 1) := by decide +kernel
theorem dJ8_lowSurrogate_5 : decode cJ8_lowSurrogate 5 = .ok (.ldc 76, 2) := by decide +kernel
theorem dJ8_lowSurrogate_7 : decode cJ8_lowSurrogate 7 = .ok (.iadd, 1) := by decide +kernel
theorem dJ8_lowSurrogate_8 : decode cJ8_lowSurrogate 8 = .ok (.i2c, 1) := by decide +kernel
theorem dJ8_lowSurrogate_9 : decode cJ8_lowSurrogate 9 = .ok (.ireturn, 1) := by decide +kernel
theorem dJ9_numberOfLeadingZeros_0 : decode cJ9_numberOfLeadingZeros 0 = .ok (.lload_n 0, 1) := by decide +kernel
theorem dJ9_numberOfLeadingZeros_1 : decode cJ9_numberOfLeadingZeros 1 = .ok (.bipush 32, 2) := by decide +kernel
theorem dJ9_numberOfLeadingZeros_3 : decode cJ9_numberOfLeadingZeros 3 = .ok (.lushr, 1) := by decide +kernel
theorem dJ9_numberOfLeadingZeros_4 : decode cJ9_numberOfLeadingZeros 4 = .ok (.l2i, 1) := by decide +kernel
theorem dJ9_numberOfLeadingZeros_5 : decode cJ9_numberOfLeadingZeros 5 = .ok (.istore_n 2, 1) := by decide +kernel
theorem dJ9_numberOfLeadingZeros_6 : decode cJ9_numberOfLeadingZeros 6 = .ok (.iload_n 2, 1) := by decide +kernel
theorem dJ9_numberOfLeadingZeros_7 : decode cJ9_numberOfLeadingZeros 7 = .ok (.ifCond .ne 14, 3) := by decide +kernel
theorem dJ9_numberOfLeadingZeros_10 : decode cJ9_numberOfLeadingZeros 10 = .ok (.bipush 32, 2) := by decide +kernel
theorem dJ9_numberOfLeadingZeros_12 : decode cJ9_numberOfLeadingZeros 12 = .ok (.lload_n 0, 1) := by decide +kernel
theorem dJ9_numberOfLeadingZeros_13 : decode cJ9_numberOfLeadingZeros 13 = .ok (.l2i, 1) := by decide +kernel
theorem dJ9_numberOfLeadingZeros_14 : decode cJ9_numberOfLeadingZeros 14 = .ok (.invokestatic 308, 3) := by decide +kernel
theorem dJ9_numberOfLeadingZeros_17 : decode cJ9_numberOfLeadingZeros 17 = .ok (.iadd, 1) := by decide +kernel
theorem dJ9_numberOfLeadingZeros_18 : decode cJ9_numberOfLeadingZeros 18 = .ok (.goto 7, 3) := by decide +kernel
theorem dJ9_numberOfLeadingZeros_21 : decode cJ9_numberOfLeadingZeros 21 = .ok (.iload_n 2, 1) := by decide +kernel
theorem dJ9_numberOfLeadingZeros_22 : decode cJ9_numberOfLeadingZeros 22 = .ok (.invokestatic 308, 3) := by decide +kernel
theorem dJ9_numberOfLeadingZeros_25 : decode cJ9_numberOfLeadingZeros 25 = .ok (.ireturn, 1) := by decide +kernel
theorem dJ10_numberOfLeadingZeros_0 : decode cJ10_numberOfLeadingZeros 0 = .ok (.iload_n 0, 1) := by decide +kernel
theorem dJ10_numberOfLeadingZeros_1 : decode cJ10_numberOfLeadingZeros 1 = .ok (.ifCond .gt 14, 3) := by decide +kernel
theorem dJ10_numberOfLeadingZeros_4 : decode cJ10_numberOfLeadingZeros 4 = .ok (.iload_n 0, 1) := by decide +kernel
theorem dJ10_numberOfLeadingZeros_5 : decode cJ10_numberOfLeadingZeros 5 = .ok (.ifCond .ne 8, 3) := by decide +kernel
theorem dJ10_numberOfLeadingZeros_8 : decode cJ10_numberOfLeadingZeros 8 = .ok (.bipush 32, 2) := by decide +kernel
theorem dJ10_numberOfLeadingZeros_10 : decode cJ10_numberOfLeadingZeros 10 = .ok (.goto 4, 3) := by decide +kernel
theorem dJ10_numberOfLeadingZeros_13 : decode cJ10_numberOfLeadingZeros 13 = .ok (.iconst 0, 1) := by decide +kernel
theorem dJ10_numberOfLeadingZeros_14 : decode cJ10_numberOfLeadingZeros 14 = .ok (.ireturn, 1) := by decide +kernel
theorem dJ10_numberOfLeadingZeros_15 : decode cJ10_numberOfLeadingZeros 15 = .ok (.bipush 31, 2) := by decide +kernel
theorem dJ10_numberOfLeadingZeros_17 : decode cJ10_numberOfLeadingZeros 17 = .ok (.istore_n 1, 1) := by decide +kernel
theorem dJ10_numberOfLeadingZeros_18 : decode cJ10_numberOfLeadingZeros 18 = .ok (.iload_n 0, 1) := by decide +kernel
theorem dJ10_numberOfLeadingZeros_19 : decode cJ10_numberOfLeadingZeros 19 = .ok (.ldc_w 264, 3) := by decide +kernel
theorem dJ10_numberOfLeadingZeros_22 : decode cJ10_numberOfLeadingZeros 22 = .ok (.if_icmp .lt 11, 3) := by decide +kernel
theorem dJ10_numberOfLeadingZeros_25 : decode cJ10_numberOfLeadingZeros 25 = .ok (.iinc 1 (-16), 3) := by decide +kernel
theorem dJ10_numberOfLeadingZeros_28 : decode cJ10_numberOfLeadingZeros 28 = .ok (.iload_n 0, 1) := by decide +kernel
theorem dJ10_numberOfLeadingZeros_29 : decode cJ10_numberOfLeadingZeros 29 = .ok (.bipush 16, 2) := by decide +kernel
theorem dJ10_numberOfLeadingZeros_31 : decode cJ10_numberOfLeadingZeros 31 = .ok (.iushr, 1) := by decide +kernel
theorem dJ10_numberOfLeadingZeros_32 : decode cJ10_numberOfLeadingZeros 32 = .ok (.istore_n 0, 1) := by decide +kernel
theorem dJ10_numberOfLeadingZeros_33 : decode cJ10_numberOfLeadingZeros 33 = .ok (.iload_n 0, 1) := by decide +kernel
theorem dJ10_numberOfLeadingZeros_34 : decode cJ10_numberOfLeadingZeros 34 = .ok (.sipush 256, 3) := by decide +kernel
theorem dJ10_numberOfLeadingZeros_37 : decode cJ10_numberOfLeadingZeros 37 = .ok (.if_icmp .lt 11, 3) := by decide +kernel
theorem dJ10_numberOfLeadingZeros_40 : decode cJ10_numberOfLeadingZeros 40 = .ok (.iinc 1 (-8), 3) := by decide +kernel
theorem dJ10_numberOfLeadingZeros_43 : decode cJ10_numberOfLeadingZeros 43 = .ok (.iload_n 0, 1) := by decide +kernel
theorem dJ10_numberOfLeadingZeros_44 : decode cJ10_numberOfLeadingZeros 44 = .ok (.bipush 8, 2) := by decide +kernel
theorem dJ10_numberOfLeadingZeros_46 : decode cJ10_numberOfLeadingZeros 46 = .ok (.iushr, 1) := by decide +kernel
theorem dJ10_numberOfLeadingZeros_47 : decode cJ10_numberOfLeadingZeros 47 = .ok (.istore_n 0, 1) := by decide +kernel
theorem dJ10_numberOfLeadingZeros_48 : decode cJ10_numberOfLeadingZeros 48 = .ok (.iload_n 0, 1) := by decide +kernel
theorem dJ10_numberOfLeadingZeros_49 : decode cJ10_numberOfLeadingZeros 49 = .ok (.bipush 16, 2) := by decide +kernel
theorem dJ10_numberOfLeadingZeros_51 : decode cJ10_numberOfLeadingZeros 51 = .ok (.if_icmp .lt 10, 3) := by decide +kernel
theorem dJ10_numberOfLeadingZeros_54 : decode cJ10_numberOfLeadingZeros 54 = .ok (.iinc 1 (-4), 3) := by decide +kernel
theorem dJ10_numberOfLeadingZeros_57 : decode cJ10_numberOfLeadingZeros 57 = .ok (.iload_n 0, 1) := by decide +kernel
theorem dJ10_numberOfLeadingZeros_58 : decode cJ10_numberOfLeadingZeros 58 = .ok (.iconst 4, 1) := by decide +kernel
theorem dJ10_numberOfLeadingZeros_59 : decode cJ10_numberOfLeadingZeros 59 = .ok (.iushr, 1) := by decide +kernel
theorem dJ10_numberOfLeadingZeros_60 : decode cJ10_numberOfLeadingZeros 60 = .ok (.istore_n 0, 1) := by decide +kernel
theorem dJ10_numberOfLeadingZeros_61 : decode cJ10_numberOfLeadingZeros 61 = .ok (.iload_n 0, 1) := by decide +kernel
theorem dJ10_numberOfLeadingZeros_62 : decode cJ10_numberOfLeadingZeros 62 = .ok (.iconst 4, 1) := by decide +kernel
theorem dJ10_numberOfLeadingZeros_63 : decode cJ10_numberOfLeadingZeros 63 = .ok (.if_icmp .lt 10, 3) := by decide +kernel
theorem dJ10_numberOfLeadingZeros_66 : decode cJ10_numberOfLeadingZeros 66 = .ok (.iinc 1 (-2), 3) := by decide +kernel
theorem dJ10_numberOfLeadingZeros_69 : decode cJ10_numberOfLeadingZeros 69 = .ok (.iload_n 0, 1) := by decide +kernel
theorem dJ10_numberOfLeadingZeros_70 : decode cJ10_numberOfLeadingZeros 70 = .ok (.iconst 2, 1) := by decide +kernel
theorem dJ10_numberOfLeadingZeros_71 : decode cJ10_numberOfLeadingZeros 71 = .ok (.iushr, 1) := by decide +kernel
theorem dJ10_numberOfLeadingZeros_72 : decode cJ10_numberOfLeadingZeros 72 = .ok (.istore_n 0, 1) := by decide +kernel
theorem dJ10_numberOfLeadingZeros_73 : decode cJ10_numberOfLeadingZeros 73 = .ok (.iload_n 1, 1) := by decide +kernel
theorem dJ10_numberOfLeadingZeros_74 : decode cJ10_numberOfLeadingZeros 74 = .ok (.iload_n 0, 1) := by decide +kernel
theorem dJ10_numberOfLeadingZeros_75 : decode cJ10_numberOfLeadingZeros 75 = .ok (.iconst 1, 1) := by decide +kernel
theorem dJ10_numberOfLeadingZeros_76 : decode cJ10_numberOfLeadingZeros 76 = .ok (.iushr, 1) := by decide +kernel
theorem dJ10_numberOfLeadingZeros_77 : decode cJ10_numberOfLeadingZeros 77 = .ok (.isub, 1) := by decide +kernel
theorem dJ10_numberOfLeadingZeros_78 : decode cJ10_numberOfLeadingZeros 78 = .ok (.ireturn, 1) := by decide +kernel
theorem dJ11_copyOf_0 : decode cJ11_copyOf 0 = .ok (.iload_n 1, 1) := by decide +kernel
theorem dJ11_copyOf_1 : decode cJ11_copyOf 1 = .ok (.aload_n 0, 1) := by decide +kernel
theorem dJ11_copyOf_2 : decode cJ11_copyOf 2 = .ok (.arraylength, 1) := by decide +kernel
theorem dJ11_copyOf_3 : decode cJ11_copyOf 3 = .ok (.if_icmp .ne 11, 3) := by decide +kernel
theorem dJ11_copyOf_6 : decode cJ11_copyOf 6 = .ok (.aload_n 0, 1) := by decide +kernel
theorem dJ11_copyOf_7 : decode cJ11_copyOf 7 = .ok (.invokevirtual 316, 3) := by decide +kernel
theorem dJ11_copyOf_10 : decode cJ11_copyOf 10 = .ok (.checkcast 317, 3) := by decide +kernel
theorem dJ11_copyOf_13 : decode cJ11_copyOf 13 = .ok (.areturn, 1) := by decide +kernel
theorem dJ11_copyOf_14 : decode cJ11_copyOf 14 = .ok (.iload_n 1, 1) := by decide +kernel
theorem dJ11_copyOf_15 : decode cJ11_copyOf 15 = .ok (.newarray .int, 2) := by decide +kernel
theorem dJ11_copyOf_17 : decode cJ11_copyOf 17 = .ok (.astore_n 2, 1) := by decide +kernel
theorem dJ11_copyOf_18 : decode cJ11_copyOf 18 = .ok (.aload_n 0, 1) := by decide +kernel
theorem dJ11_copyOf_19 : decode cJ11_copyOf 19 = .ok (.iconst 0, 1) := by decide +kernel
theorem dJ11_copyOf_20 : decode cJ11_copyOf 20 = .ok (.aload_n 2, 1) := by decide +kernel
theorem dJ11_copyOf_21 : decode cJ11_copyOf 21 = .ok (.iconst 0, 1) := by decide +kernel
theorem dJ11_copyOf_22 : decode cJ11_copyOf 22 = .ok (.aload_n 0, 1) := by decide +kernel
theorem dJ11_copyOf_23 : decode cJ11_copyOf 23 = .ok (.arraylength, 1) := by decide +kernel
theorem dJ11_copyOf_24 : decode cJ11_copyOf 24 = .ok (.iload_n 1, 1) := by decide +kernel
theorem dJ11_copyOf_25 : decode cJ11_copyOf 25 = .ok (.invokestatic 304, 3) := by decide +kernel
theorem dJ11_copyOf_28 : decode cJ11_copyOf 28 = .ok (.invokestatic 150, 3) := by decide +kernel
theorem dJ11_copyOf_31 : decode cJ11_copyOf 31 = .ok (.aload_n 2, 1) := by decide +kernel
theorem dJ11_copyOf_32 : decode cJ11_copyOf 32 = .ok (.areturn, 1) := by decide +kernel
theorem dJ12_init_0 : decode cJ12_init 0 = .ok (.aload_n 0, 1) := by decide +kernel
theorem dJ12_init_1 : decode cJ12_init 1 = .ok (.aload_n 1, 1) := by decide +kernel
theorem dJ12_init_2 : decode cJ12_init 2 = .ok (.invokespecial 7, 3) := by decide +kernel
theorem dJ12_init_5 : decode cJ12_init 5 = .ok (.return_, 1) := by decide +kernel
theorem dJ12_init_2_0 : decode cJ12_init_2 0 = .ok (.aload_n 0, 1) := by decide +kernel
theorem dJ12_init_2_1 : decode cJ12_init_2 1 = .ok (.invokespecial 1, 3) := by decide +kernel
theorem dJ12_init_2_4 : decode cJ12_init_2 4 = .ok (.return_, 1) := by decide +kernel
theorem dJ13_init_0 : decode cJ13_init 0 = .ok (.aload_n 0, 1) := by decide +kernel
theorem dJ13_init_1 : decode cJ13_init 1 = .ok (.aload_n 1, 1) := by decide +kernel
theorem dJ13_init_2 : decode cJ13_init 2 = .ok (.invokespecial 7, 3) := by decide +kernel
theorem dJ13_init_5 : decode cJ13_init 5 = .ok (.return_, 1) := by decide +kernel
theorem dJ14_init_0 : decode cJ14_init 0 = .ok (.aload_n 0, 1) := by decide +kernel
theorem dJ14_init_1 : decode cJ14_init 1 = .ok (.invokespecial 1, 3) := by decide +kernel
theorem dJ14_init_4 : decode cJ14_init 4 = .ok (.return_, 1) := by decide +kernel
theorem dJ15_init_0 : decode cJ15_init 0 = .ok (.aload_n 0, 1) := by decide +kernel
theorem dJ15_init_1 : decode cJ15_init 1 = .ok (.invokespecial 1, 3) := by decide +kernel
theorem dJ15_init_4 : decode cJ15_init 4 = .ok (.return_, 1) := by decide +kernel
theorem dJ16_init_0 : decode cJ16_init 0 = .ok (.aload_n 0, 1) := by decide +kernel
theorem dJ16_init_1 : decode cJ16_init 1 = .ok (.invokespecial 1, 3) := by decide +kernel
theorem dJ16_init_4 : decode cJ16_init 4 = .ok (.return_, 1) := by decide +kernel
theorem dJ17_init_0 : decode cJ17_init 0 = .ok (.return_, 1) := by decide +kernel
