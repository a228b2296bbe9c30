set_option maxRecDepth 100000
theorem dX1_init_0 : decode cX1_init 0 = .ok (.aload_n 0, 1) := by decide +kernel
theorem dX1_init_1 : decode cX1_init 1 = .ok (.invokespecial 3, 3) := by decide +kernel
theorem dX1_init_4 : decode cX1_init 4 = .ok (.aload_n 0, 1) := by decide +kernel
theorem dX1_init_5 : decode cX1_init 5 = .ok (.sipush 2048, 3) := by decide +kernel
theorem dX1_init_8 : decode cX1_init 8 = .ok (.newarray .byte, 2) := by decide +kernel
theorem dX1_init_10 : decode cX1_init 10 = .ok (.putfield 9, 3) := by decide +kernel
theorem dX1_init_13 : decode cX1_init 13 = .ok (.aload_n 0, 1) := by decide +kernel
theorem dX1_init_14 : decode cX1_init 14 = .ok (.new 13, 3) := by decide +kernel
theorem dX1_init_17 : decode cX1_init 17 = .ok (.dup, 1) := by decide +kernel
theorem dX1_init_18 : decode cX1_init 18 = .ok (.invokespecial 15, 3) := by decide +kernel
theorem dX1_init_21 : decode cX1_init 21 = .ok (.putfield 16, 3) := by decide +kernel
theorem dX1_init_24 : decode cX1_init 24 = .ok (.aload_n 0, 1) := by decide +kernel
theorem dX1_init_25 : decode cX1_init 25 = .ok (.new 13, 3) := by decide +kernel
theorem dX1_init_28 : decode cX1_init 28 = .ok (.dup, 1) := by decide +kernel
theorem dX1_init_29 : decode cX1_init 29 = .ok (.invokespecial 15, 3) := by decide +kernel
theorem dX1_init_32 : decode cX1_init 32 = .ok (.putfield 20, 3) := by decide +kernel
theorem dX1_init_35 : decode cX1_init 35 = .ok (.aload_n 0, 1) := by decide +kernel
theorem dX1_init_36 : decode cX1_init 36 = .ok (.new 13, 3) := by decide +kernel
theorem dX1_init_39 : decode cX1_init 39 = .ok (.dup, 1) := by decide +kernel
theorem dX1_init_40 : decode cX1_init 40 = .ok (.invokespecial 15, 3) := by decide +kernel
theorem dX1_init_43 : decode cX1_init 43 = .ok (.putfield 23, 3) := by decide +kernel
theorem dX1_init_46 : decode cX1_init 46 = .ok (.aload_n 0, 1) := by decide +kernel
theorem dX1_init_47 : decode cX1_init 47 = .ok (.ldc 26, 2) := by decide +kernel
theorem dX1_init_49 : decode cX1_init 49 = .ok (.newarray .boolean, 2) := by decide +kernel
theorem dX1_init_51 : decode cX1_init 51 = .ok (.putfield 27, 3) := by decide +kernel
theorem dX1_init_54 : decode cX1_init 54 = .ok (.aload_n 0, 1) := by decide +kernel
theorem dX1_init_55 : decode cX1_init 55 = .ok (.ldc 31, 2) := by decide +kernel
theorem dX1_init_57 : decode cX1_init 57 = .ok (.newarray .int, 2) := by decide +kernel
theorem dX1_init_59 : decode cX1_init 59 = .ok (.putfield 32, 3) := by decide +kernel
theorem dX1_init_62 : decode cX1_init 62 = .ok (.aload_n 0, 1) := by decide +kernel
theorem dX1_init_63 : decode cX1_init 63 = .ok (.ldc 31, 2) := by decide +kernel
theorem dX1_init_65 : decode cX1_init 65 = .ok (.newarray .int, 2) := by decide +kernel
theorem dX1_init_67 : decode cX1_init 67 = .ok (.putfield 36, 3) := by decide +kernel
theorem dX1_init_70 : decode cX1_init 70 = .ok (.aload_n 0, 1) := by decide +kernel
theorem dX1_init_71 : decode cX1_init 71 = .ok (.ldc 31, 2) := by decide +kernel
theorem dX1_init_73 : decode cX1_init 73 = .ok (.newarray .byte, 2) := by decide +kernel
theorem dX1_init_75 : decode cX1_init 75 = .ok (.putfield 39, 3) := by decide +kernel
theorem dX1_init_78 : decode cX1_init 78 = .ok (.aload_n 0, 1) := by decide +kernel
theorem dX1_init_79 : decode cX1_init 79 = .ok (.ldc 31, 2) := by decide +kernel
theorem dX1_init_81 : decode cX1_init 81 = .ok (.newarray .byte, 2) := by decide +kernel
theorem dX1_init_83 : decode cX1_init 83 = .ok (.putfield 42, 3) := by decide +kernel
theorem dX1_init_86 : decode cX1_init 86 = .ok (.aload_n 0, 1) := by decide +kernel
theorem dX1_init_87 : decode cX1_init 87 = .ok (.sipush 200, 3) := by decide +kernel
theorem dX1_init_90 : decode cX1_init 90 = .ok (.newarray .long, 2) := by decide +kernel
theorem dX1_init_92 : decode cX1_init 92 = .ok (.putfield 45, 3) := by decide +kernel
theorem dX1_init_95 : decode cX1_init 95 = .ok (.aload_n 0, 1) := by decide +kernel
theorem dX1_init_96 : decode cX1_init 96 = .ok (.sipush 200, 3) := by decide +kernel
theorem dX1_init_99 : decode cX1_init 99 = .ok (.newarray .long, 2) := by decide +kernel
theorem dX1_init_101 : decode cX1_init 101 = .ok (.putfield 49, 3) := by decide +kernel
theorem dX1_init_104 : decode cX1_init 104 = .ok (.aload_n 0, 1) := by decide +kernel
theorem dX1_init_105 : decode cX1_init 105 = .ok (.iconst (-1), 1) := by decide +kernel
theorem dX1_init_106 : decode cX1_init 106 = .ok (.putfield 52, 3) := by decide +kernel
theorem dX1_init_109 : decode cX1_init 109 = .ok (.aload_n 0, 1) := by decide +kernel
theorem dX1_init_110 : decode cX1_init 110 = .ok (.getfield 16, 3) := by decide +kernel
theorem dX1_init_113 : decode cX1_init 113 = .ok (.aload_n 0, 1) := by decide +kernel
theorem dX1_init_114 : decode cX1_init 114 = .ok (.getfield 9, 3) := by decide +kernel
theorem dX1_init_117 : decode cX1_init 117 = .ok (.iconst 0, 1) := by decide +kernel
theorem dX1_init_118 : decode cX1_init 118 = .ok (.invokevirtual 56, 3) := by decide +kernel
theorem dX1_init_121 : decode cX1_init 121 = .ok (.pop, 1) := by decide +kernel
theorem dX1_init_122 : decode cX1_init 122 = .ok (.aload_n 0, 1) := by decide +kernel
theorem dX1_init_123 : decode cX1_init 123 = .ok (.getfield 20, 3) := by decide +kernel
theorem dX1_init_126 : decode cX1_init 126 = .ok (.aload_n 0, 1) := by decide +kernel
theorem dX1_init_127 : decode cX1_init 127 = .ok (.getfield 9, 3) := by decide +kernel
theorem dX1_init_130 : decode cX1_init 130 = .ok (.iconst 0, 1) := by decide +kernel
theorem dX1_init_131 : decode cX1_init 131 = .ok (.invokevirtual 56, 3) := by decide +kernel
theorem dX1_init_134 : decode cX1_init 134 = .ok (.pop, 1) := by decide +kernel
theorem dX1_init_135 : decode cX1_init 135 = .ok (.return_, 1) := by decide +kernel
theorem dX1_place_0 : decode cX1_place 0 = .ok (.aload_n 0, 1) := by decide +kernel
theorem dX1_place_1 : decode cX1_place 1 = .ok (.getfield 52, 3) := by decide +kernel
theorem dX1_place_4 : decode cX1_place 4 = .ok (.ireturn, 1) := by decide +kernel
theorem dX1_feed_0 : decode cX1_feed 0 = .ok (.aload_n 0, 1) := by decide +kernel
theorem dX1_feed_1 : decode cX1_feed 1 = .ok (.getfield 66, 3) := by decide +kernel
theorem dX1_feed_4 : decode cX1_feed 4 = .ok (.bipush 20, 2) := by decide +kernel
theorem dX1_feed_6 : decode cX1_feed 6 = .ok (.iadd, 1) := by decide +kernel
theorem dX1_feed_7 : decode cX1_feed 7 = .ok (.sipush 2048, 3) := by decide +kernel
theorem dX1_feed_10 : decode cX1_feed 10 = .ok (.if_icmp .gt 7, 3) := by decide +kernel
theorem dX1_feed_13 : decode cX1_feed 13 = .ok (.iconst 1, 1) := by decide +kernel
theorem dX1_feed_14 : decode cX1_feed 14 = .ok (.goto 4, 3) := by decide +kernel
theorem dX1_feed_17 : decode cX1_feed 17 = .ok (.iconst 0, 1) := by decide +kernel
theorem dX1_feed_18 : decode cX1_feed 18 = .ok (.invokestatic 69, 3) := by decide +kernel
theorem dX1_feed_21 : decode cX1_feed 21 = .ok (.aload_n 0, 1) := by decide +kernel
theorem dX1_feed_22 : decode cX1_feed 22 = .ok (.iload_n 1, 1) := by decide +kernel
theorem dX1_feed_23 : decode cX1_feed 23 = .ok (.invokevirtual 73, 3) := by decide +kernel
theorem dX1_feed_26 : decode cX1_feed 26 = .ok (.aload_n 0, 1) := by decide +kernel
theorem dX1_feed_27 : decode cX1_feed 27 = .ok (.iload_n 2, 1) := by decide +kernel
theorem dX1_feed_28 : decode cX1_feed 28 = .ok (.invokevirtual 73, 3) := by decide +kernel
theorem dX1_feed_31 : decode cX1_feed 31 = .ok (.aload_n 0, 1) := by decide +kernel
theorem dX1_feed_32 : decode cX1_feed 32 = .ok (.iload_n 3, 1) := by decide +kernel
theorem dX1_feed_33 : decode cX1_feed 33 = .ok (.invokevirtual 73, 3) := by decide +kernel
theorem dX1_feed_36 : decode cX1_feed 36 = .ok (.aload_n 0, 1) := by decide +kernel
theorem dX1_feed_37 : decode cX1_feed 37 = .ok (.iload 4, 2) := by decide +kernel
theorem dX1_feed_39 : decode cX1_feed 39 = .ok (.invokevirtual 73, 3) := by decide +kernel
theorem dX1_feed_42 : decode cX1_feed 42 = .ok (.aload_n 0, 1) := by decide +kernel
theorem dX1_feed_43 : decode cX1_feed 43 = .ok (.iload 5, 2) := by decide +kernel
theorem dX1_feed_45 : decode cX1_feed 45 = .ok (.invokevirtual 73, 3) := by decide +kernel
theorem dX1_feed_48 : decode cX1_feed 48 = .ok (.aload_n 0, 1) := by decide +kernel
theorem dX1_feed_49 : decode cX1_feed 49 = .ok (.getfield 66, 3) := by decide +kernel
theorem dX1_feed_52 : decode cX1_feed 52 = .ok (.ireturn, 1) := by decide +kernel
theorem dX1_room_0 : decode cX1_room 0 = .ok (.iload_n 0, 1) := by decide +kernel
theorem dX1_room_1 : decode cX1_room 1 = .ok (.ifCond .ne 11, 3) := by decide +kernel
theorem dX1_room_4 : decode cX1_room 4 = .ok (.new 63, 3) := by decide +kernel
theorem dX1_room_7 : decode cX1_room 7 = .ok (.dup, 1) := by decide +kernel
theorem dX1_room_8 : decode cX1_room 8 = .ok (.invokespecial 65, 3) := by decide +kernel
theorem dX1_room_11 : decode cX1_room 11 = .ok (.athrow, 1) := by decide +kernel
theorem dX1_room_12 : decode cX1_room 12 = .ok (.return_, 1) := by decide +kernel
theorem dX1_put_0 : decode cX1_put 0 = .ok (.bipush 24, 2) := by decide +kernel
theorem dX1_put_2 : decode cX1_put 2 = .ok (.istore_n 2, 1) := by decide +kernel
theorem dX1_put_3 : decode cX1_put 3 = .ok (.iload_n 2, 1) := by decide +kernel
theorem dX1_put_4 : decode cX1_put 4 = .ok (.ifCond .lt 32, 3) := by decide +kernel
theorem dX1_put_7 : decode cX1_put 7 = .ok (.aload_n 0, 1) := by decide +kernel
theorem dX1_put_8 : decode cX1_put 8 = .ok (.getfield 9, 3) := by decide +kernel
theorem dX1_put_11 : decode cX1_put 11 = .ok (.aload_n 0, 1) := by decide +kernel
theorem dX1_put_12 : decode cX1_put 12 = .ok (.getfield 66, 3) := by decide +kernel
theorem dX1_put_15 : decode cX1_put 15 = .ok (.iload_n 1, 1) := by decide +kernel
theorem dX1_put_16 : decode cX1_put 16 = .ok (.iload_n 2, 1) := by decide +kernel
theorem dX1_put_17 : decode cX1_put 17 = .ok (.iushr, 1) := by decide +kernel
theorem dX1_put_18 : decode cX1_put 18 = .ok (.i2b, 1) := by decide +kernel
theorem dX1_put_19 : decode cX1_put 19 = .ok (.bastore, 1) := by decide +kernel
theorem dX1_put_20 : decode cX1_put 20 = .ok (.aload_n 0, 1) := by decide +kernel
theorem dX1_put_21 : decode cX1_put 21 = .ok (.dup, 1) := by decide +kernel
theorem dX1_put_22 : decode cX1_put 22 = .ok (.getfield 66, 3) := by decide +kernel
theorem dX1_put_25 : decode cX1_put 25 = .ok (.iconst 1, 1) := by decide +kernel
theorem dX1_put_26 : decode cX1_put 26 = .ok (.iadd, 1) := by decide +kernel
theorem dX1_put_27 : decode cX1_put 27 = .ok (.putfield 66, 3) := by decide +kernel
theorem dX1_put_30 : decode cX1_put 30 = .ok (.iinc 2 (-8), 3) := by decide +kernel
theorem dX1_put_33 : decode cX1_put 33 = .ok (.goto (-30), 3) := by decide +kernel
theorem dX1_put_36 : decode cX1_put 36 = .ok (.return_, 1) := by decide +kernel
theorem dX1_end_0 : decode cX1_end 0 = .ok (.iload_n 1, 1) := by decide +kernel
theorem dX1_end_1 : decode cX1_end 1 = .ok (.ifCond .lt 15, 3) := by decide +kernel
theorem dX1_end_4 : decode cX1_end 4 = .ok (.iload_n 1, 1) := by decide +kernel
theorem dX1_end_5 : decode cX1_end 5 = .ok (.aload_n 0, 1) := by decide +kernel
theorem dX1_end_6 : decode cX1_end 6 = .ok (.getfield 66, 3) := by decide +kernel
theorem dX1_end_9 : decode cX1_end 9 = .ok (.if_icmp .gt 7, 3) := by decide +kernel
theorem dX1_end_12 : decode cX1_end 12 = .ok (.iconst 1, 1) := by decide +kernel
theorem dX1_end_13 : decode cX1_end 13 = .ok (.goto 4, 3) := by decide +kernel
theorem dX1_end_16 : decode cX1_end 16 = .ok (.iconst 0, 1) := by decide +kernel
theorem dX1_end_17 : decode cX1_end 17 = .ok (.invokestatic 77, 3) := by decide +kernel
theorem dX1_end_20 : decode cX1_end 20 = .ok (.aload_n 0, 1) := by decide +kernel
theorem dX1_end_21 : decode cX1_end 21 = .ok (.iload_n 1, 1) := by decide +kernel
theorem dX1_end_22 : decode cX1_end 22 = .ok (.putfield 66, 3) := by decide +kernel
theorem dX1_end_25 : decode cX1_end 25 = .ok (.iload_n 1, 1) := by decide +kernel
theorem dX1_end_26 : decode cX1_end 26 = .ok (.ireturn, 1) := by decide +kernel
theorem dX1_in_0 : decode cX1_in 0 = .ok (.iload_n 0, 1) := by decide +kernel
theorem dX1_in_1 : decode cX1_in 1 = .ok (.ifCond .ne 11, 3) := by decide +kernel
theorem dX1_in_4 : decode cX1_in 4 = .ok (.new 60, 3) := by decide +kernel
theorem dX1_in_7 : decode cX1_in 7 = .ok (.dup, 1) := by decide +kernel
theorem dX1_in_8 : decode cX1_in 8 = .ok (.invokespecial 62, 3) := by decide +kernel
theorem dX1_in_11 : decode cX1_in 11 = .ok (.athrow, 1) := by decide +kernel
theorem dX1_in_12 : decode cX1_in 12 = .ok (.return_, 1) := by decide +kernel
theorem dX1_set_0 : decode cX1_set 0 = .ok (.aload_n 0, 1) := by decide +kernel
theorem dX1_set_1 : decode cX1_set 1 = .ok (.getfield 66, 3) := by decide +kernel
theorem dX1_set_4 : decode cX1_set 4 = .ok (.istore_n 2, 1) := by decide +kernel
theorem dX1_set_5 : decode cX1_set 5 = .ok (.aload_n 0, 1) := by decide +kernel
theorem dX1_set_6 : decode cX1_set 6 = .ok (.iconst 0, 1) := by decide +kernel
theorem dX1_set_7 : decode cX1_set 7 = .ok (.putfield 66, 3) := by decide +kernel
theorem dX1_set_10 : decode cX1_set 10 = .ok (.aload_n 0, 1) := by decide +kernel
theorem dX1_set_11 : decode cX1_set 11 = .ok (.iload_n 1, 1) := by decide +kernel
theorem dX1_set_12 : decode cX1_set 12 = .ok (.invokevirtual 80, 3) := by decide +kernel
theorem dX1_set_15 : decode cX1_set 15 = .ok (.astore_n 3, 1) := by decide +kernel
theorem dX1_set_16 : decode cX1_set 16 = .ok (.aload_n 0, 1) := by decide +kernel
theorem dX1_set_17 : decode cX1_set 17 = .ok (.iconst (-1), 1) := by decide +kernel
theorem dX1_set_18 : decode cX1_set 18 = .ok (.putfield 52, 3) := by decide +kernel
theorem dX1_set_21 : decode cX1_set 21 = .ok (.aload_n 0, 1) := by decide +kernel
theorem dX1_set_22 : decode cX1_set 22 = .ok (.getfield 23, 3) := by decide +kernel
theorem dX1_set_25 : decode cX1_set 25 = .ok (.aload_n 0, 1) := by decide +kernel
theorem dX1_set_26 : decode cX1_set 26 = .ok (.getfield 9, 3) := by decide +kernel
theorem dX1_set_29 : decode cX1_set 29 = .ok (.iload_n 2, 1) := by decide +kernel
theorem dX1_set_30 : decode cX1_set 30 = .ok (.invokevirtual 56, 3) := by decide +kernel
theorem dX1_set_33 : decode cX1_set 33 = .ok (.istore 4, 2) := by decide +kernel
theorem dX1_set_35 : decode cX1_set 35 = .ok (.goto 24, 3) := by decide +kernel
theorem dX1_set_38 : decode cX1_set 38 = .ok (.astore 5, 2) := by decide +kernel
theorem dX1_set_40 : decode cX1_set 40 = .ok (.aload_n 0, 1) := by decide +kernel
theorem dX1_set_41 : decode cX1_set 41 = .ok (.aload_n 0, 1) := by decide +kernel
theorem dX1_set_42 : decode cX1_set 42 = .ok (.getfield 23, 3) := by decide +kernel
theorem dX1_set_45 : decode cX1_set 45 = .ok (.invokevirtual 86, 3) := by decide +kernel
theorem dX1_set_48 : decode cX1_set 48 = .ok (.putfield 52, 3) := by decide +kernel
theorem dX1_set_51 : decode cX1_set 51 = .ok (.new 90, 3) := by decide +kernel
theorem dX1_set_54 : decode cX1_set 54 = .ok (.dup, 1) := by decide +kernel
theorem dX1_set_55 : decode cX1_set 55 = .ok (.invokespecial 92, 3) := by decide +kernel
theorem dX1_set_58 : decode cX1_set 58 = .ok (.athrow, 1) := by decide +kernel
theorem dX1_set_59 : decode cX1_set 59 = .ok (.iload 4, 2) := by decide +kernel
theorem dX1_set_61 : decode cX1_set 61 = .ok (.invokestatic 69, 3) := by decide +kernel
theorem dX1_set_64 : decode cX1_set 64 = .ok (.iload_n 1, 1) := by decide +kernel
theorem dX1_set_65 : decode cX1_set 65 = .ok (.ifCond .ne 14, 3) := by decide +kernel
theorem dX1_set_68 : decode cX1_set 68 = .ok (.aload_n 0, 1) := by decide +kernel
theorem dX1_set_69 : decode cX1_set 69 = .ok (.aload_n 0, 1) := by decide +kernel
theorem dX1_set_70 : decode cX1_set 70 = .ok (.getfield 23, 3) := by decide +kernel
theorem dX1_set_73 : decode cX1_set 73 = .ok (.putfield 16, 3) := by decide +kernel
theorem dX1_set_76 : decode cX1_set 76 = .ok (.goto 11, 3) := by decide +kernel
theorem dX1_set_79 : decode cX1_set 79 = .ok (.aload_n 0, 1) := by decide +kernel
theorem dX1_set_80 : decode cX1_set 80 = .ok (.aload_n 0, 1) := by decide +kernel
theorem dX1_set_81 : decode cX1_set 81 = .ok (.getfield 23, 3) := by decide +kernel
theorem dX1_set_84 : decode cX1_set 84 = .ok (.putfield 20, 3) := by decide +kernel
theorem dX1_set_87 : decode cX1_set 87 = .ok (.aload_n 0, 1) := by decide +kernel
theorem dX1_set_88 : decode cX1_set 88 = .ok (.getfield 23, 3) := by decide +kernel
theorem dX1_set_91 : decode cX1_set 91 = .ok (.getfield 93, 3) := by decide +kernel
theorem dX1_set_94 : decode cX1_set 94 = .ok (.invokevirtual 97, 3) := by decide +kernel
theorem dX1_set_97 : decode cX1_set 97 = .ok (.istore 5, 2) := by decide +kernel
theorem dX1_set_99 : decode cX1_set 99 = .ok (.aload_n 0, 1) := by decide +kernel
theorem dX1_set_100 : decode cX1_set 100 = .ok (.aload_n 3, 1) := by decide +kernel
theorem dX1_set_101 : decode cX1_set 101 = .ok (.putfield 23, 3) := by decide +kernel
theorem dX1_set_104 : decode cX1_set 104 = .ok (.iload 5, 2) := by decide +kernel
theorem dX1_set_106 : decode cX1_set 106 = .ok (.ireturn, 1) := by decide +kernel
theorem dX1_pattern_0 : decode cX1_pattern 0 = .ok (.iload_n 1, 1) := by decide +kernel
theorem dX1_pattern_1 : decode cX1_pattern 1 = .ok (.ifCond .eq 8, 3) := by decide +kernel
theorem dX1_pattern_4 : decode cX1_pattern 4 = .ok (.iload_n 1, 1) := by decide +kernel
theorem dX1_pattern_5 : decode cX1_pattern 5 = .ok (.iconst 1, 1) := by decide +kernel
theorem dX1_pattern_6 : decode cX1_pattern 6 = .ok (.if_icmp .ne 7, 3) := by decide +kernel
theorem dX1_pattern_9 : decode cX1_pattern 9 = .ok (.iconst 1, 1) := by decide +kernel
theorem dX1_pattern_10 : decode cX1_pattern 10 = .ok (.goto 4, 3) := by decide +kernel
theorem dX1_pattern_13 : decode cX1_pattern 13 = .ok (.iconst 0, 1) := by decide +kernel
theorem dX1_pattern_14 : decode cX1_pattern 14 = .ok (.invokestatic 77, 3) := by decide +kernel
theorem dX1_pattern_17 : decode cX1_pattern 17 = .ok (.iload_n 1, 1) := by decide +kernel
theorem dX1_pattern_18 : decode cX1_pattern 18 = .ok (.ifCond .ne 10, 3) := by decide +kernel
theorem dX1_pattern_21 : decode cX1_pattern 21 = .ok (.aload_n 0, 1) := by decide +kernel
theorem dX1_pattern_22 : decode cX1_pattern 22 = .ok (.getfield 16, 3) := by decide +kernel
theorem dX1_pattern_25 : decode cX1_pattern 25 = .ok (.goto 7, 3) := by decide +kernel
theorem dX1_pattern_28 : decode cX1_pattern 28 = .ok (.aload_n 0, 1) := by decide +kernel
theorem dX1_pattern_29 : decode cX1_pattern 29 = .ok (.getfield 20, 3) := by decide +kernel
theorem dX1_pattern_32 : decode cX1_pattern 32 = .ok (.areturn, 1) := by decide +kernel
theorem dX1_empty_0 : decode cX1_empty 0 = .ok (.aload_n 0, 1) := by decide +kernel
theorem dX1_empty_1 : decode cX1_empty 1 = .ok (.iload_n 1, 1) := by decide +kernel
theorem dX1_empty_2 : decode cX1_empty 2 = .ok (.invokevirtual 80, 3) := by decide +kernel
theorem dX1_empty_5 : decode cX1_empty 5 = .ok (.getfield 102, 3) := by decide +kernel
theorem dX1_empty_8 : decode cX1_empty 8 = .ok (.ireturn, 1) := by decide +kernel
theorem dX1_fits_0 : decode cX1_fits 0 = .ok (.aload_n 0, 1) := by decide +kernel
theorem dX1_fits_1 : decode cX1_fits 1 = .ok (.getfield 66, 3) := by decide +kernel
theorem dX1_fits_4 : decode cX1_fits 4 = .ok (.istore_n 2, 1) := by decide +kernel
theorem dX1_fits_5 : decode cX1_fits 5 = .ok (.aload_n 0, 1) := by decide +kernel
theorem dX1_fits_6 : decode cX1_fits 6 = .ok (.iconst 0, 1) := by decide +kernel
theorem dX1_fits_7 : decode cX1_fits 7 = .ok (.putfield 66, 3) := by decide +kernel
theorem dX1_fits_10 : decode cX1_fits 10 = .ok (.aload_n 0, 1) := by decide +kernel
theorem dX1_fits_11 : decode cX1_fits 11 = .ok (.iload_n 1, 1) := by decide +kernel
theorem dX1_fits_12 : decode cX1_fits 12 = .ok (.invokevirtual 80, 3) := by decide +kernel
theorem dX1_fits_15 : decode cX1_fits 15 = .ok (.astore_n 3, 1) := by decide +kernel
theorem dX1_fits_16 : decode cX1_fits 16 = .ok (.aload_n 3, 1) := by decide +kernel
theorem dX1_fits_17 : decode cX1_fits 17 = .ok (.getfield 93, 3) := by decide +kernel
theorem dX1_fits_20 : decode cX1_fits 20 = .ok (.invokevirtual 106, 3) := by decide +kernel
theorem dX1_fits_23 : decode cX1_fits 23 = .ok (.istore 4, 2) := by decide +kernel
theorem dX1_fits_25 : decode cX1_fits 25 = .ok (.iconst 0, 1) := by decide +kernel
theorem dX1_fits_26 : decode cX1_fits 26 = .ok (.istore 5, 2) := by decide +kernel
theorem dX1_fits_28 : decode cX1_fits 28 = .ok (.iload 5, 2) := by decide +kernel
theorem dX1_fits_30 : decode cX1_fits 30 = .ok (.iload_n 2, 1) := by decide +kernel
theorem dX1_fits_31 : decode cX1_fits 31 = .ok (.if_icmp .ge 38, 3) := by decide +kernel
theorem dX1_fits_34 : decode cX1_fits 34 = .ok (.aload_n 0, 1) := by decide +kernel
theorem dX1_fits_35 : decode cX1_fits 35 = .ok (.getfield 9, 3) := by decide +kernel
theorem dX1_fits_38 : decode cX1_fits 38 = .ok (.iload 5, 2) := by decide +kernel
theorem dX1_fits_40 : decode cX1_fits 40 = .ok (.baload, 1) := by decide +kernel
theorem dX1_fits_41 : decode cX1_fits 41 = .ok (.ifCond .ge 7, 3) := by decide +kernel
theorem dX1_fits_44 : decode cX1_fits 44 = .ok (.iconst (-1), 1) := by decide +kernel
theorem dX1_fits_45 : decode cX1_fits 45 = .ok (.goto 16, 3) := by decide +kernel
theorem dX1_fits_48 : decode cX1_fits 48 = .ok (.aload_n 3, 1) := by decide +kernel
theorem dX1_fits_49 : decode cX1_fits 49 = .ok (.iload 4, 2) := by decide +kernel
theorem dX1_fits_51 : decode cX1_fits 51 = .ok (.aload_n 0, 1) := by decide +kernel
theorem dX1_fits_52 : decode cX1_fits 52 = .ok (.getfield 9, 3) := by decide +kernel
theorem dX1_fits_55 : decode cX1_fits 55 = .ok (.iload 5, 2) := by decide +kernel
theorem dX1_fits_57 : decode cX1_fits 57 = .ok (.baload, 1) := by decide +kernel
theorem dX1_fits_58 : decode cX1_fits 58 = .ok (.invokevirtual 109, 3) := by decide +kernel
theorem dX1_fits_61 : decode cX1_fits 61 = .ok (.istore 4, 2) := by decide +kernel
theorem dX1_fits_63 : decode cX1_fits 63 = .ok (.iinc 5 1, 3) := by decide +kernel
theorem dX1_fits_66 : decode cX1_fits 66 = .ok (.goto (-38), 3) := by decide +kernel
theorem dX1_fits_69 : decode cX1_fits 69 = .ok (.aload_n 3, 1) := by decide +kernel
theorem dX1_fits_70 : decode cX1_fits 70 = .ok (.iload 4, 2) := by decide +kernel
theorem dX1_fits_72 : decode cX1_fits 72 = .ok (.iload_n 2, 1) := by decide +kernel
theorem dX1_fits_73 : decode cX1_fits 73 = .ok (.ifCond .ne 7, 3) := by decide +kernel
theorem dX1_fits_76 : decode cX1_fits 76 = .ok (.iconst 1, 1) := by decide +kernel
theorem dX1_fits_77 : decode cX1_fits 77 = .ok (.goto 4, 3) := by decide +kernel
theorem dX1_fits_80 : decode cX1_fits 80 = .ok (.iconst 0, 1) := by decide +kernel
theorem dX1_fits_81 : decode cX1_fits 81 = .ok (.invokevirtual 113, 3) := by decide +kernel
theorem dX1_fits_84 : decode cX1_fits 84 = .ok (.ireturn, 1) := by decide +kernel
theorem dX1_first_0 : decode cX1_first 0 = .ok (.iload_n 1, 1) := by decide +kernel
theorem dX1_first_1 : decode cX1_first 1 = .ok (.ifCond .lt 12, 3) := by decide +kernel
theorem dX1_first_4 : decode cX1_first 4 = .ok (.iload_n 1, 1) := by decide +kernel
theorem dX1_first_5 : decode cX1_first 5 = .ok (.iconst 4, 1) := by decide +kernel
theorem dX1_first_6 : decode cX1_first 6 = .ok (.if_icmp .gt 7, 3) := by decide +kernel
theorem dX1_first_9 : decode cX1_first 9 = .ok (.iconst 1, 1) := by decide +kernel
theorem dX1_first_10 : decode cX1_first 10 = .ok (.goto 4, 3) := by decide +kernel
theorem dX1_first_13 : decode cX1_first 13 = .ok (.iconst 0, 1) := by decide +kernel
theorem dX1_first_14 : decode cX1_first 14 = .ok (.invokestatic 77, 3) := by decide +kernel
theorem dX1_first_17 : decode cX1_first 17 = .ok (.aload_n 0, 1) := by decide +kernel
theorem dX1_first_18 : decode cX1_first 18 = .ok (.iconst 0, 1) := by decide +kernel
theorem dX1_first_19 : decode cX1_first 19 = .ok (.putfield 117, 3) := by decide +kernel
theorem dX1_first_22 : decode cX1_first 22 = .ok (.iload_n 1, 1) := by decide +kernel
theorem dX1_first_23 : decode cX1_first 23 = .ok (.aload_n 0, 1) := by decide +kernel
theorem dX1_first_24 : decode cX1_first 24 = .ok (.getfield 16, 3) := by decide +kernel
theorem dX1_first_27 : decode cX1_first 27 = .ok (.getfield 102, 3) := by decide +kernel
theorem dX1_first_30 : decode cX1_first 30 = .ok (.aload_n 0, 1) := by decide +kernel
theorem dX1_first_31 : decode cX1_first 31 = .ok (.getfield 20, 3) := by decide +kernel
theorem dX1_first_34 : decode cX1_first 34 = .ok (.getfield 102, 3) := by decide +kernel
theorem dX1_first_37 : decode cX1_first 37 = .ok (.invokestatic 120, 3) := by decide +kernel
theorem dX1_first_40 : decode cX1_first 40 = .ok (.ifCond .eq 5, 3) := by decide +kernel
theorem dX1_first_43 : decode cX1_first 43 = .ok (.iconst 0, 1) := by decide +kernel
theorem dX1_first_44 : decode cX1_first 44 = .ok (.ireturn, 1) := by decide +kernel
theorem dX1_first_45 : decode cX1_first 45 = .ok (.iconst 0, 1) := by decide +kernel
theorem dX1_first_46 : decode cX1_first 46 = .ok (.istore_n 2, 1) := by decide +kernel
theorem dX1_first_47 : decode cX1_first 47 = .ok (.iload_n 2, 1) := by decide +kernel
theorem dX1_first_48 : decode cX1_first 48 = .ok (.ldc 26, 2) := by decide +kernel
theorem dX1_first_50 : decode cX1_first 50 = .ok (.if_icmp .ge 16, 3) := by decide +kernel
theorem dX1_first_53 : decode cX1_first 53 = .ok (.aload_n 0, 1) := by decide +kernel
theorem dX1_first_54 : decode cX1_first 54 = .ok (.getfield 27, 3) := by decide +kernel
theorem dX1_first_57 : decode cX1_first 57 = .ok (.iload_n 2, 1) := by decide +kernel
theorem dX1_first_58 : decode cX1_first 58 = .ok (.iconst 0, 1) := by decide +kernel
theorem dX1_first_59 : decode cX1_first 59 = .ok (.bastore, 1) := by decide +kernel
theorem dX1_first_60 : decode cX1_first 60 = .ok (.iinc 2 1, 3) := by decide +kernel
theorem dX1_first_63 : decode cX1_first 63 = .ok (.goto (-16), 3) := by decide +kernel
theorem dX1_first_66 : decode cX1_first 66 = .ok (.aload_n 0, 1) := by decide +kernel
theorem dX1_first_67 : decode cX1_first 67 = .ok (.getfield 32, 3) := by decide +kernel
theorem dX1_first_70 : decode cX1_first 70 = .ok (.iconst 0, 1) := by decide +kernel
theorem dX1_first_71 : decode cX1_first 71 = .ok (.aload_n 0, 1) := by decide +kernel
theorem dX1_first_72 : decode cX1_first 72 = .ok (.getfield 16, 3) := by decide +kernel
theorem dX1_first_75 : decode cX1_first 75 = .ok (.getfield 93, 3) := by decide +kernel
theorem dX1_first_78 : decode cX1_first 78 = .ok (.invokevirtual 106, 3) := by decide +kernel
theorem dX1_first_81 : decode cX1_first 81 = .ok (.aload_n 0, 1) := by decide +kernel
theorem dX1_first_82 : decode cX1_first 82 = .ok (.getfield 20, 3) := by decide +kernel
theorem dX1_first_85 : decode cX1_first 85 = .ok (.getfield 93, 3) := by decide +kernel
theorem dX1_first_88 : decode cX1_first 88 = .ok (.invokevirtual 106, 3) := by decide +kernel
theorem dX1_first_91 : decode cX1_first 91 = .ok (.invokestatic 124, 3) := by decide +kernel
theorem dX1_first_94 : decode cX1_first 94 = .ok (.iastore, 1) := by decide +kernel
theorem dX1_first_95 : decode cX1_first 95 = .ok (.aload_n 0, 1) := by decide +kernel
theorem dX1_first_96 : decode cX1_first 96 = .ok (.getfield 36, 3) := by decide +kernel
theorem dX1_first_99 : decode cX1_first 99 = .ok (.iconst 0, 1) := by decide +kernel
theorem dX1_first_100 : decode cX1_first 100 = .ok (.iconst (-1), 1) := by decide +kernel
theorem dX1_first_101 : decode cX1_first 101 = .ok (.iastore, 1) := by decide +kernel
theorem dX1_first_102 : decode cX1_first 102 = .ok (.iconst 1, 1) := by decide +kernel
theorem dX1_first_103 : decode cX1_first 103 = .ok (.istore_n 2, 1) := by decide +kernel
theorem dX1_first_104 : decode cX1_first 104 = .ok (.iconst 0, 1) := by decide +kernel
theorem dX1_first_105 : decode cX1_first 105 = .ok (.istore_n 3, 1) := by decide +kernel
theorem dX1_first_106 : decode cX1_first 106 = .ok (.iload_n 3, 1) := by decide +kernel
theorem dX1_first_107 : decode cX1_first 107 = .ok (.iload_n 2, 1) := by decide +kernel
theorem dX1_first_108 : decode cX1_first 108 = .ok (.if_icmp .ge 192, 3) := by decide +kernel
theorem dX1_first_111 : decode cX1_first 111 = .ok (.aload_n 0, 1) := by decide +kernel
theorem dX1_first_112 : decode cX1_first 112 = .ok (.getfield 32, 3) := by decide +kernel
theorem dX1_first_115 : decode cX1_first 115 = .ok (.iload_n 3, 1) := by decide +kernel
theorem dX1_first_116 : decode cX1_first 116 = .ok (.iaload, 1) := by decide +kernel
theorem dX1_first_117 : decode cX1_first 117 = .ok (.sipush 201, 3) := by decide +kernel
theorem dX1_first_120 : decode cX1_first 120 = .ok (.idiv, 1) := by decide +kernel
theorem dX1_first_121 : decode cX1_first 121 = .ok (.istore 4, 2) := by decide +kernel
theorem dX1_first_123 : decode cX1_first 123 = .ok (.aload_n 0, 1) := by decide +kernel
theorem dX1_first_124 : decode cX1_first 124 = .ok (.getfield 32, 3) := by decide +kernel
theorem dX1_first_127 : decode cX1_first 127 = .ok (.iload_n 3, 1) := by decide +kernel
theorem dX1_first_128 : decode cX1_first 128 = .ok (.iaload, 1) := by decide +kernel
theorem dX1_first_129 : decode cX1_first 129 = .ok (.sipush 201, 3) := by decide +kernel
theorem dX1_first_132 : decode cX1_first 132 = .ok (.irem, 1) := by decide +kernel
theorem dX1_first_133 : decode cX1_first 133 = .ok (.istore 5, 2) := by decide +kernel
theorem dX1_first_135 : decode cX1_first 135 = .ok (.iconst 0, 1) := by decide +kernel
theorem dX1_first_136 : decode cX1_first 136 = .ok (.istore 6, 2) := by decide +kernel
theorem dX1_first_138 : decode cX1_first 138 = .ok (.iload 6, 2) := by decide +kernel
theorem dX1_first_140 : decode cX1_first 140 = .ok (.sipush 128, 3) := by decide +kernel
theorem dX1_first_143 : decode cX1_first 143 = .ok (.if_icmp .ge 151, 3) := by decide +kernel
theorem dX1_first_146 : decode cX1_first 146 = .ok (.iload 4, 2) := by decide +kernel
theorem dX1_first_148 : decode cX1_first 148 = .ok (.sipush 200, 3) := by decide +kernel
theorem dX1_first_151 : decode cX1_first 151 = .ok (.if_icmp .ne 7, 3) := by decide +kernel
theorem dX1_first_154 : decode cX1_first 154 = .ok (.iconst (-1), 1) := by decide +kernel
theorem dX1_first_155 : decode cX1_first 155 = .ok (.goto 14, 3) := by decide +kernel
theorem dX1_first_158 : decode cX1_first 158 = .ok (.aload_n 0, 1) := by decide +kernel
theorem dX1_first_159 : decode cX1_first 159 = .ok (.getfield 16, 3) := by decide +kernel
theorem dX1_first_162 : decode cX1_first 162 = .ok (.iload 4, 2) := by decide +kernel
theorem dX1_first_164 : decode cX1_first 164 = .ok (.iload 6, 2) := by decide +kernel
theorem dX1_first_166 : decode cX1_first 166 = .ok (.invokevirtual 109, 3) := by decide +kernel
theorem dX1_first_169 : decode cX1_first 169 = .ok (.istore 7, 2) := by decide +kernel
theorem dX1_first_171 : decode cX1_first 171 = .ok (.iload 5, 2) := by decide +kernel
theorem dX1_first_173 : decode cX1_first 173 = .ok (.sipush 200, 3) := by decide +kernel
theorem dX1_first_176 : decode cX1_first 176 = .ok (.if_icmp .ne 7, 3) := by decide +kernel
theorem dX1_first_179 : decode cX1_first 179 = .ok (.iconst (-1), 1) := by decide +kernel
theorem dX1_first_180 : decode cX1_first 180 = .ok (.goto 14, 3) := by decide +kernel
theorem dX1_first_183 : decode cX1_first 183 = .ok (.aload_n 0, 1) := by decide +kernel
theorem dX1_first_184 : decode cX1_first 184 = .ok (.getfield 20, 3) := by decide +kernel
theorem dX1_first_187 : decode cX1_first 187 = .ok (.iload 5, 2) := by decide +kernel
theorem dX1_first_189 : decode cX1_first 189 = .ok (.iload 6, 2) := by decide +kernel
theorem dX1_first_191 : decode cX1_first 191 = .ok (.invokevirtual 109, 3) := by decide +kernel
theorem dX1_first_194 : decode cX1_first 194 = .ok (.istore 8, 2) := by decide +kernel
theorem dX1_first_196 : decode cX1_first 196 = .ok (.iload 7, 2) := by decide +kernel
theorem dX1_first_198 : decode cX1_first 198 = .ok (.iload 8, 2) := by decide +kernel
theorem dX1_first_200 : decode cX1_first 200 = .ok (.invokestatic 124, 3) := by decide +kernel
theorem dX1_first_203 : decode cX1_first 203 = .ok (.istore 9, 2) := by decide +kernel
theorem dX1_first_205 : decode cX1_first 205 = .ok (.aload_n 0, 1) := by decide +kernel
theorem dX1_first_206 : decode cX1_first 206 = .ok (.getfield 27, 3) := by decide +kernel
theorem dX1_first_209 : decode cX1_first 209 = .ok (.iload 9, 2) := by decide +kernel
theorem dX1_first_211 : decode cX1_first 211 = .ok (.baload, 1) := by decide +kernel
theorem dX1_first_212 : decode cX1_first 212 = .ok (.ifCond .eq 6, 3) := by decide +kernel
theorem dX1_first_215 : decode cX1_first 215 = .ok (.goto 73, 3) := by decide +kernel
theorem dX1_first_218 : decode cX1_first 218 = .ok (.aload_n 0, 1) := by decide +kernel
theorem dX1_first_219 : decode cX1_first 219 = .ok (.getfield 27, 3) := by decide +kernel
theorem dX1_first_222 : decode cX1_first 222 = .ok (.iload 9, 2) := by decide +kernel
theorem dX1_first_224 : decode cX1_first 224 = .ok (.iconst 1, 1) := by decide +kernel
theorem dX1_first_225 : decode cX1_first 225 = .ok (.bastore, 1) := by decide +kernel
theorem dX1_first_226 : decode cX1_first 226 = .ok (.aload_n 0, 1) := by decide +kernel
theorem dX1_first_227 : decode cX1_first 227 = .ok (.getfield 32, 3) := by decide +kernel
theorem dX1_first_230 : decode cX1_first 230 = .ok (.iload_n 2, 1) := by decide +kernel
theorem dX1_first_231 : decode cX1_first 231 = .ok (.iload 9, 2) := by decide +kernel
theorem dX1_first_233 : decode cX1_first 233 = .ok (.iastore, 1) := by decide +kernel
theorem dX1_first_234 : decode cX1_first 234 = .ok (.aload_n 0, 1) := by decide +kernel
theorem dX1_first_235 : decode cX1_first 235 = .ok (.getfield 36, 3) := by decide +kernel
theorem dX1_first_238 : decode cX1_first 238 = .ok (.iload_n 2, 1) := by decide +kernel
theorem dX1_first_239 : decode cX1_first 239 = .ok (.iload_n 3, 1) := by decide +kernel
theorem dX1_first_240 : decode cX1_first 240 = .ok (.iastore, 1) := by decide +kernel
theorem dX1_first_241 : decode cX1_first 241 = .ok (.aload_n 0, 1) := by decide +kernel
theorem dX1_first_242 : decode cX1_first 242 = .ok (.getfield 39, 3) := by decide +kernel
theorem dX1_first_245 : decode cX1_first 245 = .ok (.iload_n 2, 1) := by decide +kernel
theorem dX1_first_246 : decode cX1_first 246 = .ok (.iload 6, 2) := by decide +kernel
theorem dX1_first_248 : decode cX1_first 248 = .ok (.i2b, 1) := by decide +kernel
theorem dX1_first_249 : decode cX1_first 249 = .ok (.bastore, 1) := by decide +kernel
theorem dX1_first_250 : decode cX1_first 250 = .ok (.iinc 2 1, 3) := by decide +kernel
theorem dX1_first_253 : decode cX1_first 253 = .ok (.iload_n 1, 1) := by decide +kernel
theorem dX1_first_254 : decode cX1_first 254 = .ok (.aload_n 0, 1) := by decide +kernel
theorem dX1_first_255 : decode cX1_first 255 = .ok (.getfield 16, 3) := by decide +kernel
theorem dX1_first_258 : decode cX1_first 258 = .ok (.iload 7, 2) := by decide +kernel
theorem dX1_first_260 : decode cX1_first 260 = .ok (.iconst 0, 1) := by decide +kernel
theorem dX1_first_261 : decode cX1_first 261 = .ok (.invokevirtual 113, 3) := by decide +kernel
theorem dX1_first_264 : decode cX1_first 264 = .ok (.aload_n 0, 1) := by decide +kernel
theorem dX1_first_265 : decode cX1_first 265 = .ok (.getfield 20, 3) := by decide +kernel
theorem dX1_first_268 : decode cX1_first 268 = .ok (.iload 8, 2) := by decide +kernel
theorem dX1_first_270 : decode cX1_first 270 = .ok (.iconst 0, 1) := by decide +kernel
theorem dX1_first_271 : decode cX1_first 271 = .ok (.invokevirtual 113, 3) := by decide +kernel
theorem dX1_first_274 : decode cX1_first 274 = .ok (.invokestatic 120, 3) := by decide +kernel
theorem dX1_first_277 : decode cX1_first 277 = .ok (.ifCond .eq 11, 3) := by decide +kernel
theorem dX1_first_280 : decode cX1_first 280 = .ok (.aload_n 0, 1) := by decide +kernel
theorem dX1_first_281 : decode cX1_first 281 = .ok (.iload_n 2, 1) := by decide +kernel
theorem dX1_first_282 : decode cX1_first 282 = .ok (.iconst 1, 1) := by decide +kernel
theorem dX1_first_283 : decode cX1_first 283 = .ok (.isub, 1) := by decide +kernel
theorem dX1_first_284 : decode cX1_first 284 = .ok (.invokevirtual 127, 3) := by decide +kernel
theorem dX1_first_287 : decode cX1_first 287 = .ok (.ireturn, 1) := by decide +kernel
theorem dX1_first_288 : decode cX1_first 288 = .ok (.iinc 6 1, 3) := by decide +kernel
theorem dX1_first_291 : decode cX1_first 291 = .ok (.goto (-153), 3) := by decide +kernel
theorem dX1_first_294 : decode cX1_first 294 = .ok (.iinc 3 1, 3) := by decide +kernel
theorem dX1_first_297 : decode cX1_first 297 = .ok (.goto (-191), 3) := by decide +kernel
theorem dX1_first_300 : decode cX1_first 300 = .ok (.iconst (-1), 1) := by decide +kernel
theorem dX1_first_301 : decode cX1_first 301 = .ok (.ireturn, 1) := by decide +kernel
theorem dX1_wanted_0 : decode cX1_wanted 0 = .ok (.iload_n 0, 1) := by decide +kernel
theorem dX1_wanted_1 : decode cX1_wanted 1 = .ok (.tableswitch 84 0 3 #[31, 42, 56, 70], 31) := by decide +kernel
theorem dX1_wanted_32 : decode cX1_wanted 32 = .ok (.iload_n 1, 1) := by decide +kernel
theorem dX1_wanted_33 : decode cX1_wanted 33 = .ok (.iload_n 2, 1) := by decide +kernel
theorem dX1_wanted_34 : decode cX1_wanted 34 = .ok (.if_icmp .eq 7, 3) := by decide +kernel
theorem dX1_wanted_37 : decode cX1_wanted 37 = .ok (.iconst 1, 1) := by decide +kernel
theorem dX1_wanted_38 : decode cX1_wanted 38 = .ok (.goto 4, 3) := by decide +kernel
theorem dX1_wanted_41 : decode cX1_wanted 41 = .ok (.iconst 0, 1) := by decide +kernel
theorem dX1_wanted_42 : decode cX1_wanted 42 = .ok (.ireturn, 1) := by decide +kernel
theorem dX1_wanted_43 : decode cX1_wanted 43 = .ok (.iload_n 1, 1) := by decide +kernel
theorem dX1_wanted_44 : decode cX1_wanted 44 = .ok (.ifCond .eq 11, 3) := by decide +kernel
theorem dX1_wanted_47 : decode cX1_wanted 47 = .ok (.iload_n 2, 1) := by decide +kernel
theorem dX1_wanted_48 : decode cX1_wanted 48 = .ok (.ifCond .ne 7, 3) := by decide +kernel
theorem dX1_wanted_51 : decode cX1_wanted 51 = .ok (.iconst 1, 1) := by decide +kernel
theorem dX1_wanted_52 : decode cX1_wanted 52 = .ok (.goto 4, 3) := by decide +kernel
theorem dX1_wanted_55 : decode cX1_wanted 55 = .ok (.iconst 0, 1) := by decide +kernel
theorem dX1_wanted_56 : decode cX1_wanted 56 = .ok (.ireturn, 1) := by decide +kernel
theorem dX1_wanted_57 : decode cX1_wanted 57 = .ok (.iload_n 2, 1) := by decide +kernel
theorem dX1_wanted_58 : decode cX1_wanted 58 = .ok (.ifCond .eq 11, 3) := by decide +kernel
theorem dX1_wanted_61 : decode cX1_wanted 61 = .ok (.iload_n 1, 1) := by decide +kernel
theorem dX1_wanted_62 : decode cX1_wanted 62 = .ok (.ifCond .ne 7, 3) := by decide +kernel
theorem dX1_wanted_65 : decode cX1_wanted 65 = .ok (.iconst 1, 1) := by decide +kernel
theorem dX1_wanted_66 : decode cX1_wanted 66 = .ok (.goto 4, 3) := by decide +kernel
theorem dX1_wanted_69 : decode cX1_wanted 69 = .ok (.iconst 0, 1) := by decide +kernel
theorem dX1_wanted_70 : decode cX1_wanted 70 = .ok (.ireturn, 1) := by decide +kernel
theorem dX1_wanted_71 : decode cX1_wanted 71 = .ok (.iload_n 1, 1) := by decide +kernel
theorem dX1_wanted_72 : decode cX1_wanted 72 = .ok (.ifCond .eq 11, 3) := by decide +kernel
theorem dX1_wanted_75 : decode cX1_wanted 75 = .ok (.iload_n 2, 1) := by decide +kernel
theorem dX1_wanted_76 : decode cX1_wanted 76 = .ok (.ifCond .eq 7, 3) := by decide +kernel
theorem dX1_wanted_79 : decode cX1_wanted 79 = .ok (.iconst 1, 1) := by decide +kernel
theorem dX1_wanted_80 : decode cX1_wanted 80 = .ok (.goto 4, 3) := by decide +kernel
theorem dX1_wanted_83 : decode cX1_wanted 83 = .ok (.iconst 0, 1) := by decide +kernel
theorem dX1_wanted_84 : decode cX1_wanted 84 = .ok (.ireturn, 1) := by decide +kernel
theorem dX1_wanted_85 : decode cX1_wanted 85 = .ok (.iload_n 1, 1) := by decide +kernel
theorem dX1_wanted_86 : decode cX1_wanted 86 = .ok (.ifCond .ne 11, 3) := by decide +kernel
theorem dX1_wanted_89 : decode cX1_wanted 89 = .ok (.iload_n 2, 1) := by decide +kernel
theorem dX1_wanted_90 : decode cX1_wanted 90 = .ok (.ifCond .ne 7, 3) := by decide +kernel
theorem dX1_wanted_93 : decode cX1_wanted 93 = .ok (.iconst 1, 1) := by decide +kernel
theorem dX1_wanted_94 : decode cX1_wanted 94 = .ok (.goto 4, 3) := by decide +kernel
theorem dX1_wanted_97 : decode cX1_wanted 97 = .ok (.iconst 0, 1) := by decide +kernel
theorem dX1_wanted_98 : decode cX1_wanted 98 = .ok (.ireturn, 1) := by decide +kernel
theorem dX1_pair_0 : decode cX1_pair 0 = .ok (.sipush 201, 3) := by decide +kernel
theorem dX1_pair_3 : decode cX1_pair 3 = .ok (.iload_n 0, 1) := by decide +kernel
theorem dX1_pair_4 : decode cX1_pair 4 = .ok (.ifCond .ge 9, 3) := by decide +kernel
theorem dX1_pair_7 : decode cX1_pair 7 = .ok (.sipush 200, 3) := by decide +kernel
theorem dX1_pair_10 : decode cX1_pair 10 = .ok (.goto 4, 3) := by decide +kernel
theorem dX1_pair_13 : decode cX1_pair 13 = .ok (.iload_n 0, 1) := by decide +kernel
theorem dX1_pair_14 : decode cX1_pair 14 = .ok (.imul, 1) := by decide +kernel
theorem dX1_pair_15 : decode cX1_pair 15 = .ok (.iload_n 1, 1) := by decide +kernel
theorem dX1_pair_16 : decode cX1_pair 16 = .ok (.ifCond .ge 9, 3) := by decide +kernel
theorem dX1_pair_19 : decode cX1_pair 19 = .ok (.sipush 200, 3) := by decide +kernel
theorem dX1_pair_22 : decode cX1_pair 22 = .ok (.goto 4, 3) := by decide +kernel
theorem dX1_pair_25 : decode cX1_pair 25 = .ok (.iload_n 1, 1) := by decide +kernel
theorem dX1_pair_26 : decode cX1_pair 26 = .ok (.iadd, 1) := by decide +kernel
theorem dX1_pair_27 : decode cX1_pair 27 = .ok (.ireturn, 1) := by decide +kernel
theorem dX1_tell_0 : decode cX1_tell 0 = .ok (.iload_n 1, 1) := by decide +kernel
theorem dX1_tell_1 : decode cX1_tell 1 = .ok (.istore_n 2, 1) := by decide +kernel
theorem dX1_tell_2 : decode cX1_tell 2 = .ok (.aload_n 0, 1) := by decide +kernel
theorem dX1_tell_3 : decode cX1_tell 3 = .ok (.getfield 36, 3) := by decide +kernel
theorem dX1_tell_6 : decode cX1_tell 6 = .ok (.iload_n 2, 1) := by decide +kernel
theorem dX1_tell_7 : decode cX1_tell 7 = .ok (.iaload, 1) := by decide +kernel
theorem dX1_tell_8 : decode cX1_tell 8 = .ok (.ifCond .lt 23, 3) := by decide +kernel
theorem dX1_tell_11 : decode cX1_tell 11 = .ok (.aload_n 0, 1) := by decide +kernel
theorem dX1_tell_12 : decode cX1_tell 12 = .ok (.dup, 1) := by decide +kernel
theorem dX1_tell_13 : decode cX1_tell 13 = .ok (.getfield 117, 3) := by decide +kernel
theorem dX1_tell_16 : decode cX1_tell 16 = .ok (.iconst 1, 1) := by decide +kernel
theorem dX1_tell_17 : decode cX1_tell 17 = .ok (.iadd, 1) := by decide +kernel
theorem dX1_tell_18 : decode cX1_tell 18 = .ok (.putfield 117, 3) := by decide +kernel
theorem dX1_tell_21 : decode cX1_tell 21 = .ok (.aload_n 0, 1) := by decide +kernel
theorem dX1_tell_22 : decode cX1_tell 22 = .ok (.getfield 36, 3) := by decide +kernel
theorem dX1_tell_25 : decode cX1_tell 25 = .ok (.iload_n 2, 1) := by decide +kernel
theorem dX1_tell_26 : decode cX1_tell 26 = .ok (.iaload, 1) := by decide +kernel
theorem dX1_tell_27 : decode cX1_tell 27 = .ok (.istore_n 2, 1) := by decide +kernel
theorem dX1_tell_28 : decode cX1_tell 28 = .ok (.goto (-26), 3) := by decide +kernel
theorem dX1_tell_31 : decode cX1_tell 31 = .ok (.aload_n 0, 1) := by decide +kernel
theorem dX1_tell_32 : decode cX1_tell 32 = .ok (.getfield 117, 3) := by decide +kernel
theorem dX1_tell_35 : decode cX1_tell 35 = .ok (.istore_n 2, 1) := by decide +kernel
theorem dX1_tell_36 : decode cX1_tell 36 = .ok (.iload_n 1, 1) := by decide +kernel
theorem dX1_tell_37 : decode cX1_tell 37 = .ok (.istore_n 3, 1) := by decide +kernel
theorem dX1_tell_38 : decode cX1_tell 38 = .ok (.aload_n 0, 1) := by decide +kernel
theorem dX1_tell_39 : decode cX1_tell 39 = .ok (.getfield 36, 3) := by decide +kernel
theorem dX1_tell_42 : decode cX1_tell 42 = .ok (.iload_n 3, 1) := by decide +kernel
theorem dX1_tell_43 : decode cX1_tell 43 = .ok (.iaload, 1) := by decide +kernel
theorem dX1_tell_44 : decode cX1_tell 44 = .ok (.ifCond .lt 28, 3) := by decide +kernel
theorem dX1_tell_47 : decode cX1_tell 47 = .ok (.iinc 2 (-1), 3) := by decide +kernel
theorem dX1_tell_50 : decode cX1_tell 50 = .ok (.aload_n 0, 1) := by decide +kernel
theorem dX1_tell_51 : decode cX1_tell 51 = .ok (.getfield 42, 3) := by decide +kernel
theorem dX1_tell_54 : decode cX1_tell 54 = .ok (.iload_n 2, 1) := by decide +kernel
theorem dX1_tell_55 : decode cX1_tell 55 = .ok (.aload_n 0, 1) := by decide +kernel
theorem dX1_tell_56 : decode cX1_tell 56 = .ok (.getfield 39, 3) := by decide +kernel
theorem dX1_tell_59 : decode cX1_tell 59 = .ok (.iload_n 3, 1) := by decide +kernel
theorem dX1_tell_60 : decode cX1_tell 60 = .ok (.baload, 1) := by decide +kernel
theorem dX1_tell_61 : decode cX1_tell 61 = .ok (.bastore, 1) := by decide +kernel
theorem dX1_tell_62 : decode cX1_tell 62 = .ok (.aload_n 0, 1) := by decide +kernel
theorem dX1_tell_63 : decode cX1_tell 63 = .ok (.getfield 36, 3) := by decide +kernel
theorem dX1_tell_66 : decode cX1_tell 66 = .ok (.iload_n 3, 1) := by decide +kernel
theorem dX1_tell_67 : decode cX1_tell 67 = .ok (.iaload, 1) := by decide +kernel
theorem dX1_tell_68 : decode cX1_tell 68 = .ok (.istore_n 3, 1) := by decide +kernel
theorem dX1_tell_69 : decode cX1_tell 69 = .ok (.goto (-31), 3) := by decide +kernel
theorem dX1_tell_72 : decode cX1_tell 72 = .ok (.aload_n 0, 1) := by decide +kernel
theorem dX1_tell_73 : decode cX1_tell 73 = .ok (.getfield 117, 3) := by decide +kernel
theorem dX1_tell_76 : decode cX1_tell 76 = .ok (.ireturn, 1) := by decide +kernel
theorem dX1_octet_0 : decode cX1_octet 0 = .ok (.iload_n 1, 1) := by decide +kernel
theorem dX1_octet_1 : decode cX1_octet 1 = .ok (.ifCond .lt 11, 3) := by decide +kernel
theorem dX1_octet_4 : decode cX1_octet 4 = .ok (.iload_n 1, 1) := by decide +kernel
theorem dX1_octet_5 : decode cX1_octet 5 = .ok (.aload_n 0, 1) := by decide +kernel
theorem dX1_octet_6 : decode cX1_octet 6 = .ok (.getfield 117, 3) := by decide +kernel
theorem dX1_octet_9 : decode cX1_octet 9 = .ok (.if_icmp .lt 11, 3) := by decide +kernel
theorem dX1_octet_12 : decode cX1_octet 12 = .ok (.new 131, 3) := by decide +kernel
theorem dX1_octet_15 : decode cX1_octet 15 = .ok (.dup, 1) := by decide +kernel
theorem dX1_octet_16 : decode cX1_octet 16 = .ok (.invokespecial 133, 3) := by decide +kernel
theorem dX1_octet_19 : decode cX1_octet 19 = .ok (.athrow, 1) := by decide +kernel
theorem dX1_octet_20 : decode cX1_octet 20 = .ok (.aload_n 0, 1) := by decide +kernel
theorem dX1_octet_21 : decode cX1_octet 21 = .ok (.getfield 42, 3) := by decide +kernel
theorem dX1_octet_24 : decode cX1_octet 24 = .ok (.iload_n 1, 1) := by decide +kernel
theorem dX1_octet_25 : decode cX1_octet 25 = .ok (.baload, 1) := by decide +kernel
theorem dX1_octet_26 : decode cX1_octet 26 = .ok (.ireturn, 1) := by decide +kernel
theorem dX1_count_0 : decode cX1_count 0 = .ok (.aload_n 0, 1) := by decide +kernel
theorem dX1_count_1 : decode cX1_count 1 = .ok (.iload_n 1, 1) := by decide +kernel
theorem dX1_count_2 : decode cX1_count 2 = .ok (.invokevirtual 80, 3) := by decide +kernel
theorem dX1_count_5 : decode cX1_count 5 = .ok (.astore_n 3, 1) := by decide +kernel
theorem dX1_count_6 : decode cX1_count 6 = .ok (.iload_n 2, 1) := by decide +kernel
theorem dX1_count_7 : decode cX1_count 7 = .ok (.ifCond .lt 13, 3) := by decide +kernel
theorem dX1_count_10 : decode cX1_count 10 = .ok (.iload_n 2, 1) := by decide +kernel
theorem dX1_count_11 : decode cX1_count 11 = .ok (.bipush 12, 2) := by decide +kernel
theorem dX1_count_13 : decode cX1_count 13 = .ok (.if_icmp .gt 7, 3) := by decide +kernel
theorem dX1_count_16 : decode cX1_count 16 = .ok (.iconst 1, 1) := by decide +kernel
theorem dX1_count_17 : decode cX1_count 17 = .ok (.goto 4, 3) := by decide +kernel
theorem dX1_count_20 : decode cX1_count 20 = .ok (.iconst 0, 1) := by decide +kernel
theorem dX1_count_21 : decode cX1_count 21 = .ok (.invokestatic 77, 3) := by decide +kernel
theorem dX1_count_24 : decode cX1_count 24 = .ok (.iload_n 2, 1) := by decide +kernel
theorem dX1_count_25 : decode cX1_count 25 = .ok (.ifCond .ne 16, 3) := by decide +kernel
theorem dX1_count_28 : decode cX1_count 28 = .ok (.aload_n 3, 1) := by decide +kernel
theorem dX1_count_29 : decode cX1_count 29 = .ok (.getfield 102, 3) := by decide +kernel
theorem dX1_count_32 : decode cX1_count 32 = .ok (.ifCond .eq 7, 3) := by decide +kernel
theorem dX1_count_35 : decode cX1_count 35 = .ok (.lconst 1, 1) := by decide +kernel
theorem dX1_count_36 : decode cX1_count 36 = .ok (.goto 4, 3) := by decide +kernel
theorem dX1_count_39 : decode cX1_count 39 = .ok (.lconst 0, 1) := by decide +kernel
theorem dX1_count_40 : decode cX1_count 40 = .ok (.lreturn, 1) := by decide +kernel
theorem dX1_count_41 : decode cX1_count 41 = .ok (.aload_n 3, 1) := by decide +kernel
theorem dX1_count_42 : decode cX1_count 42 = .ok (.getfield 93, 3) := by decide +kernel
theorem dX1_count_45 : decode cX1_count 45 = .ok (.invokevirtual 97, 3) := by decide +kernel
theorem dX1_count_48 : decode cX1_count 48 = .ok (.istore 4, 2) := by decide +kernel
theorem dX1_count_50 : decode cX1_count 50 = .ok (.aload_n 3, 1) := by decide +kernel
theorem dX1_count_51 : decode cX1_count 51 = .ok (.getfield 93, 3) := by decide +kernel
theorem dX1_count_54 : decode cX1_count 54 = .ok (.invokevirtual 106, 3) := by decide +kernel
theorem dX1_count_57 : decode cX1_count 57 = .ok (.ifCond .ge 5, 3) := by decide +kernel
theorem dX1_count_60 : decode cX1_count 60 = .ok (.lconst 0, 1) := by decide +kernel
theorem dX1_count_61 : decode cX1_count 61 = .ok (.lreturn, 1) := by decide +kernel
theorem dX1_count_62 : decode cX1_count 62 = .ok (.iconst 0, 1) := by decide +kernel
theorem dX1_count_63 : decode cX1_count 63 = .ok (.istore 5, 2) := by decide +kernel
theorem dX1_count_65 : decode cX1_count 65 = .ok (.iload 5, 2) := by decide +kernel
theorem dX1_count_67 : decode cX1_count 67 = .ok (.iload 4, 2) := by decide +kernel
theorem dX1_count_69 : decode cX1_count 69 = .ok (.if_icmp .ge 33, 3) := by decide +kernel
theorem dX1_count_72 : decode cX1_count 72 = .ok (.aload_n 0, 1) := by decide +kernel
theorem dX1_count_73 : decode cX1_count 73 = .ok (.getfield 45, 3) := by decide +kernel
theorem dX1_count_76 : decode cX1_count 76 = .ok (.iload 5, 2) := by decide +kernel
theorem dX1_count_78 : decode cX1_count 78 = .ok (.iload 5, 2) := by decide +kernel
theorem dX1_count_80 : decode cX1_count 80 = .ok (.aload_n 3, 1) := by decide +kernel
theorem dX1_count_81 : decode cX1_count 81 = .ok (.getfield 93, 3) := by decide +kernel
theorem dX1_count_84 : decode cX1_count 84 = .ok (.invokevirtual 106, 3) := by decide +kernel
theorem dX1_count_87 : decode cX1_count 87 = .ok (.if_icmp .ne 7, 3) := by decide +kernel
theorem dX1_count_90 : decode cX1_count 90 = .ok (.lconst 1, 1) := by decide +kernel
theorem dX1_count_91 : decode cX1_count 91 = .ok (.goto 4, 3) := by decide +kernel
theorem dX1_count_94 : decode cX1_count 94 = .ok (.lconst 0, 1) := by decide +kernel
theorem dX1_count_95 : decode cX1_count 95 = .ok (.lastore, 1) := by decide +kernel
theorem dX1_count_96 : decode cX1_count 96 = .ok (.iinc 5 1, 3) := by decide +kernel
theorem dX1_count_99 : decode cX1_count 99 = .ok (.goto (-34), 3) := by decide +kernel
theorem dX1_count_102 : decode cX1_count 102 = .ok (.iconst 0, 1) := by decide +kernel
theorem dX1_count_103 : decode cX1_count 103 = .ok (.istore 5, 2) := by decide +kernel
theorem dX1_count_105 : decode cX1_count 105 = .ok (.iload 5, 2) := by decide +kernel
theorem dX1_count_107 : decode cX1_count 107 = .ok (.iload_n 2, 1) := by decide +kernel
theorem dX1_count_108 : decode cX1_count 108 = .ok (.if_icmp .ge 140, 3) := by decide +kernel
theorem dX1_count_111 : decode cX1_count 111 = .ok (.iconst 0, 1) := by decide +kernel
theorem dX1_count_112 : decode cX1_count 112 = .ok (.istore 6, 2) := by decide +kernel
theorem dX1_count_114 : decode cX1_count 114 = .ok (.iload 6, 2) := by decide +kernel
theorem dX1_count_116 : decode cX1_count 116 = .ok (.iload 4, 2) := by decide +kernel
theorem dX1_count_118 : decode cX1_count 118 = .ok (.if_icmp .ge 17, 3) := by decide +kernel
theorem dX1_count_121 : decode cX1_count 121 = .ok (.aload_n 0, 1) := by decide +kernel
theorem dX1_count_122 : decode cX1_count 122 = .ok (.getfield 49, 3) := by decide +kernel
theorem dX1_count_125 : decode cX1_count 125 = .ok (.iload 6, 2) := by decide +kernel
theorem dX1_count_127 : decode cX1_count 127 = .ok (.lconst 0, 1) := by decide +kernel
theorem dX1_count_128 : decode cX1_count 128 = .ok (.lastore, 1) := by decide +kernel
theorem dX1_count_129 : decode cX1_count 129 = .ok (.iinc 6 1, 3) := by decide +kernel
theorem dX1_count_132 : decode cX1_count 132 = .ok (.goto (-18), 3) := by decide +kernel
theorem dX1_count_135 : decode cX1_count 135 = .ok (.iconst 0, 1) := by decide +kernel
theorem dX1_count_136 : decode cX1_count 136 = .ok (.istore 6, 2) := by decide +kernel
theorem dX1_count_138 : decode cX1_count 138 = .ok (.iload 6, 2) := by decide +kernel
theorem dX1_count_140 : decode cX1_count 140 = .ok (.iload 4, 2) := by decide +kernel
theorem dX1_count_142 : decode cX1_count 142 = .ok (.if_icmp .ge 70, 3) := by decide +kernel
theorem dX1_count_145 : decode cX1_count 145 = .ok (.iconst 0, 1) := by decide +kernel
theorem dX1_count_146 : decode cX1_count 146 = .ok (.istore 7, 2) := by decide +kernel
theorem dX1_count_148 : decode cX1_count 148 = .ok (.iload 7, 2) := by decide +kernel
theorem dX1_count_150 : decode cX1_count 150 = .ok (.sipush 128, 3) := by decide +kernel
theorem dX1_count_153 : decode cX1_count 153 = .ok (.if_icmp .ge 53, 3) := by decide +kernel
theorem dX1_count_156 : decode cX1_count 156 = .ok (.aload_n 0, 1) := by decide +kernel
theorem dX1_count_157 : decode cX1_count 157 = .ok (.getfield 45, 3) := by decide +kernel
theorem dX1_count_160 : decode cX1_count 160 = .ok (.iload 6, 2) := by decide +kernel
theorem dX1_count_162 : decode cX1_count 162 = .ok (.laload, 1) := by decide +kernel
theorem dX1_count_163 : decode cX1_count 163 = .ok (.lconst 0, 1) := by decide +kernel
theorem dX1_count_164 : decode cX1_count 164 = .ok (.lcmp, 1) := by decide +kernel
theorem dX1_count_165 : decode cX1_count 165 = .ok (.ifCond .eq 41, 3) := by decide +kernel
theorem dX1_count_168 : decode cX1_count 168 = .ok (.aload_n 3, 1) := by decide +kernel
theorem dX1_count_169 : decode cX1_count 169 = .ok (.iload 6, 2) := by decide +kernel
theorem dX1_count_171 : decode cX1_count 171 = .ok (.iload 7, 2) := by decide +kernel
theorem dX1_count_173 : decode cX1_count 173 = .ok (.invokevirtual 109, 3) := by decide +kernel
theorem dX1_count_176 : decode cX1_count 176 = .ok (.istore 8, 2) := by decide +kernel
theorem dX1_count_178 : decode cX1_count 178 = .ok (.iload 8, 2) := by decide +kernel
theorem dX1_count_180 : decode cX1_count 180 = .ok (.ifCond .lt 20, 3) := by decide +kernel
theorem dX1_count_183 : decode cX1_count 183 = .ok (.aload_n 0, 1) := by decide +kernel
theorem dX1_count_184 : decode cX1_count 184 = .ok (.getfield 49, 3) := by decide +kernel
theorem dX1_count_187 : decode cX1_count 187 = .ok (.iload 8, 2) := by decide +kernel
theorem dX1_count_189 : decode cX1_count 189 = .ok (.dup2, 1) := by decide +kernel
theorem dX1_count_190 : decode cX1_count 190 = .ok (.laload, 1) := by decide +kernel
theorem dX1_count_191 : decode cX1_count 191 = .ok (.aload_n 0, 1) := by decide +kernel
theorem dX1_count_192 : decode cX1_count 192 = .ok (.getfield 45, 3) := by decide +kernel
theorem dX1_count_195 : decode cX1_count 195 = .ok (.iload 6, 2) := by decide +kernel
theorem dX1_count_197 : decode cX1_count 197 = .ok (.laload, 1) := by decide +kernel
theorem dX1_count_198 : decode cX1_count 198 = .ok (.ladd, 1) := by decide +kernel
theorem dX1_count_199 : decode cX1_count 199 = .ok (.lastore, 1) := by decide +kernel
theorem dX1_count_200 : decode cX1_count 200 = .ok (.iinc 7 1, 3) := by decide +kernel
theorem dX1_count_203 : decode cX1_count 203 = .ok (.goto (-55), 3) := by decide +kernel
theorem dX1_count_206 : decode cX1_count 206 = .ok (.iinc 6 1, 3) := by decide +kernel
theorem dX1_count_209 : decode cX1_count 209 = .ok (.goto (-71), 3) := by decide +kernel
theorem dX1_count_212 : decode cX1_count 212 = .ok (.iconst 0, 1) := by decide +kernel
theorem dX1_count_213 : decode cX1_count 213 = .ok (.istore 6, 2) := by decide +kernel
theorem dX1_count_215 : decode cX1_count 215 = .ok (.iload 6, 2) := by decide +kernel
theorem dX1_count_217 : decode cX1_count 217 = .ok (.iload 4, 2) := by decide +kernel
theorem dX1_count_219 : decode cX1_count 219 = .ok (.if_icmp .ge 23, 3) := by decide +kernel
theorem dX1_count_222 : decode cX1_count 222 = .ok (.aload_n 0, 1) := by decide +kernel
theorem dX1_count_223 : decode cX1_count 223 = .ok (.getfield 45, 3) := by decide +kernel
theorem dX1_count_226 : decode cX1_count 226 = .ok (.iload 6, 2) := by decide +kernel
theorem dX1_count_228 : decode cX1_count 228 = .ok (.aload_n 0, 1) := by decide +kernel
theorem dX1_count_229 : decode cX1_count 229 = .ok (.getfield 49, 3) := by decide +kernel
theorem dX1_count_232 : decode cX1_count 232 = .ok (.iload 6, 2) := by decide +kernel
theorem dX1_count_234 : decode cX1_count 234 = .ok (.laload, 1) := by decide +kernel
theorem dX1_count_235 : decode cX1_count 235 = .ok (.lastore, 1) := by decide +kernel
theorem dX1_count_236 : decode cX1_count 236 = .ok (.iinc 6 1, 3) := by decide +kernel
theorem dX1_count_239 : decode cX1_count 239 = .ok (.goto (-24), 3) := by decide +kernel
theorem dX1_count_242 : decode cX1_count 242 = .ok (.iinc 5 1, 3) := by decide +kernel
theorem dX1_count_245 : decode cX1_count 245 = .ok (.goto (-140), 3) := by decide +kernel
theorem dX1_count_248 : decode cX1_count 248 = .ok (.lconst 0, 1) := by decide +kernel
theorem dX1_count_249 : decode cX1_count 249 = .ok (.lstore 5, 2) := by decide +kernel
theorem dX1_count_251 : decode cX1_count 251 = .ok (.iconst 0, 1) := by decide +kernel
theorem dX1_count_252 : decode cX1_count 252 = .ok (.istore 7, 2) := by decide +kernel
theorem dX1_count_254 : decode cX1_count 254 = .ok (.iload 7, 2) := by decide +kernel
theorem dX1_count_256 : decode cX1_count 256 = .ok (.iload 4, 2) := by decide +kernel
theorem dX1_count_258 : decode cX1_count 258 = .ok (.if_icmp .ge 33, 3) := by decide +kernel
theorem dX1_count_261 : decode cX1_count 261 = .ok (.aload_n 3, 1) := by decide +kernel
theorem dX1_count_262 : decode cX1_count 262 = .ok (.getfield 93, 3) := by decide +kernel
theorem dX1_count_265 : decode cX1_count 265 = .ok (.iload 7, 2) := by decide +kernel
theorem dX1_count_267 : decode cX1_count 267 = .ok (.invokevirtual 134, 3) := by decide +kernel
theorem dX1_count_270 : decode cX1_count 270 = .ok (.ifCond .lt 15, 3) := by decide +kernel
theorem dX1_count_273 : decode cX1_count 273 = .ok (.lload 5, 2) := by decide +kernel
theorem dX1_count_275 : decode cX1_count 275 = .ok (.aload_n 0, 1) := by decide +kernel
theorem dX1_count_276 : decode cX1_count 276 = .ok (.getfield 45, 3) := by decide +kernel
theorem dX1_count_279 : decode cX1_count 279 = .ok (.iload 7, 2) := by decide +kernel
theorem dX1_count_281 : decode cX1_count 281 = .ok (.laload, 1) := by decide +kernel
theorem dX1_count_282 : decode cX1_count 282 = .ok (.ladd, 1) := by decide +kernel
theorem dX1_count_283 : decode cX1_count 283 = .ok (.lstore 5, 2) := by decide +kernel
theorem dX1_count_285 : decode cX1_count 285 = .ok (.iinc 7 1, 3) := by decide +kernel
theorem dX1_count_288 : decode cX1_count 288 = .ok (.goto (-34), 3) := by decide +kernel
theorem dX1_count_291 : decode cX1_count 291 = .ok (.lload 5, 2) := by decide +kernel
theorem dX1_count_293 : decode cX1_count 293 = .ok (.lreturn, 1) := by decide +kernel
theorem dX2_init_0 : decode cX2_init 0 = .ok (.aload_n 0, 1) := by decide +kernel
theorem dX2_init_1 : decode cX2_init 1 = .ok (.invokespecial 1, 3) := by decide +kernel
theorem dX2_init_4 : decode cX2_init 4 = .ok (.aload_n 0, 1) := by decide +kernel
theorem dX2_init_5 : decode cX2_init 5 = .ok (.new 7, 3) := by decide +kernel
theorem dX2_init_8 : decode cX2_init 8 = .ok (.dup, 1) := by decide +kernel
theorem dX2_init_9 : decode cX2_init 9 = .ok (.invokespecial 9, 3) := by decide +kernel
theorem dX2_init_12 : decode cX2_init 12 = .ok (.putfield 10, 3) := by decide +kernel
theorem dX2_init_15 : decode cX2_init 15 = .ok (.aload_n 0, 1) := by decide +kernel
theorem dX2_init_16 : decode cX2_init 16 = .ok (.new 16, 3) := by decide +kernel
theorem dX2_init_19 : decode cX2_init 19 = .ok (.dup, 1) := by decide +kernel
theorem dX2_init_20 : decode cX2_init 20 = .ok (.aload_n 0, 1) := by decide +kernel
theorem dX2_init_21 : decode cX2_init 21 = .ok (.getfield 10, 3) := by decide +kernel
theorem dX2_init_24 : decode cX2_init 24 = .ok (.invokespecial 18, 3) := by decide +kernel
theorem dX2_init_27 : decode cX2_init 27 = .ok (.putfield 21, 3) := by decide +kernel
theorem dX2_init_30 : decode cX2_init 30 = .ok (.return_, 1) := by decide +kernel
theorem dX2_make_0 : decode cX2_make 0 = .ok (.aload_n 0, 1) := by decide +kernel
theorem dX2_make_1 : decode cX2_make 1 = .ok (.getfield 10, 3) := by decide +kernel
theorem dX2_make_4 : decode cX2_make 4 = .ok (.invokevirtual 25, 3) := by decide +kernel
theorem dX2_make_7 : decode cX2_make 7 = .ok (.aload_n 0, 1) := by decide +kernel
theorem dX2_make_8 : decode cX2_make 8 = .ok (.getfield 10, 3) := by decide +kernel
theorem dX2_make_11 : decode cX2_make 11 = .ok (.aload_n 1, 1) := by decide +kernel
theorem dX2_make_12 : decode cX2_make 12 = .ok (.iload_n 2, 1) := by decide +kernel
theorem dX2_make_13 : decode cX2_make 13 = .ok (.invokevirtual 28, 3) := by decide +kernel
theorem dX2_make_16 : decode cX2_make 16 = .ok (.aload_n 0, 1) := by decide +kernel
theorem dX2_make_17 : decode cX2_make 17 = .ok (.aload_n 0, 1) := by decide +kernel
theorem dX2_make_18 : decode cX2_make 18 = .ok (.getfield 10, 3) := by decide +kernel
theorem dX2_make_21 : decode cX2_make 21 = .ok (.invokevirtual 32, 3) := by decide +kernel
theorem dX2_make_24 : decode cX2_make 24 = .ok (.putfield 36, 3) := by decide +kernel
theorem dX2_make_27 : decode cX2_make 27 = .ok (.aload_n 0, 1) := by decide +kernel
theorem dX2_make_28 : decode cX2_make 28 = .ok (.getfield 21, 3) := by decide +kernel
theorem dX2_make_31 : decode cX2_make 31 = .ok (.invokevirtual 39, 3) := by decide +kernel
theorem dX2_make_34 : decode cX2_make 34 = .ok (.ireturn, 1) := by decide +kernel
theorem dX2_wrong_0 : decode cX2_wrong 0 = .ok (.aload_n 0, 1) := by decide +kernel
theorem dX2_wrong_1 : decode cX2_wrong 1 = .ok (.getfield 10, 3) := by decide +kernel
theorem dX2_wrong_4 : decode cX2_wrong 4 = .ok (.invokevirtual 42, 3) := by decide +kernel
theorem dX2_wrong_7 : decode cX2_wrong 7 = .ok (.ireturn, 1) := by decide +kernel
theorem dX2_move_0 : decode cX2_move 0 = .ok (.iload_n 1, 1) := by decide +kernel
theorem dX2_move_1 : decode cX2_move 1 = .ok (.ifCond .ge 7, 3) := by decide +kernel
theorem dX2_move_4 : decode cX2_move 4 = .ok (.iconst (-1), 1) := by decide +kernel
theorem dX2_move_5 : decode cX2_move 5 = .ok (.goto 12, 3) := by decide +kernel
theorem dX2_move_8 : decode cX2_move 8 = .ok (.aload_n 0, 1) := by decide +kernel
theorem dX2_move_9 : decode cX2_move 9 = .ok (.getfield 21, 3) := by decide +kernel
theorem dX2_move_12 : decode cX2_move 12 = .ok (.iload_n 1, 1) := by decide +kernel
theorem dX2_move_13 : decode cX2_move 13 = .ok (.iload_n 2, 1) := by decide +kernel
theorem dX2_move_14 : decode cX2_move 14 = .ok (.invokevirtual 50, 3) := by decide +kernel
theorem dX2_move_17 : decode cX2_move 17 = .ok (.ireturn, 1) := by decide +kernel
theorem dX2_has_0 : decode cX2_has 0 = .ok (.iload_n 2, 1) := by decide +kernel
theorem dX2_has_1 : decode cX2_has 1 = .ok (.ifCond .eq 10, 3) := by decide +kernel
theorem dX2_has_4 : decode cX2_has 4 = .ok (.aload_n 0, 1) := by decide +kernel
theorem dX2_has_5 : decode cX2_has 5 = .ok (.getfield 36, 3) := by decide +kernel
theorem dX2_has_8 : decode cX2_has 8 = .ok (.goto 23, 3) := by decide +kernel
theorem dX2_has_11 : decode cX2_has 11 = .ok (.iload_n 1, 1) := by decide +kernel
theorem dX2_has_12 : decode cX2_has 12 = .ok (.ifCond .lt 18, 3) := by decide +kernel
theorem dX2_has_15 : decode cX2_has 15 = .ok (.aload_n 0, 1) := by decide +kernel
theorem dX2_has_16 : decode cX2_has 16 = .ok (.getfield 21, 3) := by decide +kernel
theorem dX2_has_19 : decode cX2_has 19 = .ok (.iload_n 1, 1) := by decide +kernel
theorem dX2_has_20 : decode cX2_has 20 = .ok (.invokevirtual 46, 3) := by decide +kernel
theorem dX2_has_23 : decode cX2_has 23 = .ok (.ifCond .lt 7, 3) := by decide +kernel
theorem dX2_has_26 : decode cX2_has 26 = .ok (.iconst 1, 1) := by decide +kernel
theorem dX2_has_27 : decode cX2_has 27 = .ok (.goto 4, 3) := by decide +kernel
theorem dX2_has_30 : decode cX2_has 30 = .ok (.iconst 0, 1) := by decide +kernel
theorem dX2_has_31 : decode cX2_has 31 = .ok (.ireturn, 1) := by decide +kernel
