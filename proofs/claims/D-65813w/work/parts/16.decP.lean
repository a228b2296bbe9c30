set_option maxRecDepth 100000
theorem dX3_init_0 : decode cX3_init 0 = .ok (.aload_n 0, 1) := by decide +kernel
theorem dX3_init_1 : decode cX3_init 1 = .ok (.invokespecial 3, 3) := by decide +kernel
theorem dX3_init_4 : decode cX3_init 4 = .ok (.aload_n 0, 1) := by decide +kernel
theorem dX3_init_5 : decode cX3_init 5 = .ok (.new 9, 3) := by decide +kernel
theorem dX3_init_8 : decode cX3_init 8 = .ok (.dup, 1) := by decide +kernel
theorem dX3_init_9 : decode cX3_init 9 = .ok (.invokespecial 11, 3) := by decide +kernel
theorem dX3_init_12 : decode cX3_init 12 = .ok (.putfield 12, 3) := by decide +kernel
theorem dX3_init_15 : decode cX3_init 15 = .ok (.aload_n 0, 1) := by decide +kernel
theorem dX3_init_16 : decode cX3_init 16 = .ok (.sipush 400, 3) := by decide +kernel
theorem dX3_init_19 : decode cX3_init 19 = .ok (.newarray .long, 2) := by decide +kernel
theorem dX3_init_21 : decode cX3_init 21 = .ok (.putfield 18, 3) := by decide +kernel
theorem dX3_init_24 : decode cX3_init 24 = .ok (.aload_n 0, 1) := by decide +kernel
theorem dX3_init_25 : decode cX3_init 25 = .ok (.sipush 400, 3) := by decide +kernel
theorem dX3_init_28 : decode cX3_init 28 = .ok (.newarray .long, 2) := by decide +kernel
theorem dX3_init_30 : decode cX3_init 30 = .ok (.putfield 22, 3) := by decide +kernel
theorem dX3_init_33 : decode cX3_init 33 = .ok (.aload_n 0, 1) := by decide +kernel
theorem dX3_init_34 : decode cX3_init 34 = .ok (.sipush 400, 3) := by decide +kernel
theorem dX3_init_37 : decode cX3_init 37 = .ok (.newarray .int, 2) := by decide +kernel
theorem dX3_init_39 : decode cX3_init 39 = .ok (.putfield 25, 3) := by decide +kernel
theorem dX3_init_42 : decode cX3_init 42 = .ok (.aload_n 0, 1) := by decide +kernel
theorem dX3_init_43 : decode cX3_init 43 = .ok (.sipush 2800, 3) := by decide +kernel
theorem dX3_init_46 : decode cX3_init 46 = .ok (.newarray .long, 2) := by decide +kernel
theorem dX3_init_48 : decode cX3_init 48 = .ok (.putfield 29, 3) := by decide +kernel
theorem dX3_init_51 : decode cX3_init 51 = .ok (.aload_n 0, 1) := by decide +kernel
theorem dX3_init_52 : decode cX3_init 52 = .ok (.sipush 400, 3) := by decide +kernel
theorem dX3_init_55 : decode cX3_init 55 = .ok (.newarray .boolean, 2) := by decide +kernel
theorem dX3_init_57 : decode cX3_init 57 = .ok (.putfield 32, 3) := by decide +kernel
theorem dX3_init_60 : decode cX3_init 60 = .ok (.aload_n 0, 1) := by decide +kernel
theorem dX3_init_61 : decode cX3_init 61 = .ok (.bipush 7, 2) := by decide +kernel
theorem dX3_init_63 : decode cX3_init 63 = .ok (.newarray .long, 2) := by decide +kernel
theorem dX3_init_65 : decode cX3_init 65 = .ok (.putfield 36, 3) := by decide +kernel
theorem dX3_init_68 : decode cX3_init 68 = .ok (.aload_n 0, 1) := by decide +kernel
theorem dX3_init_69 : decode cX3_init 69 = .ok (.sipush 160, 3) := by decide +kernel
theorem dX3_init_72 : decode cX3_init 72 = .ok (.newarray .boolean, 2) := by decide +kernel
theorem dX3_init_74 : decode cX3_init 74 = .ok (.putfield 39, 3) := by decide +kernel
theorem dX3_init_77 : decode cX3_init 77 = .ok (.aload_n 0, 1) := by decide +kernel
theorem dX3_init_78 : decode cX3_init 78 = .ok (.sipush 1120, 3) := by decide +kernel
theorem dX3_init_81 : decode cX3_init 81 = .ok (.newarray .long, 2) := by decide +kernel
theorem dX3_init_83 : decode cX3_init 83 = .ok (.putfield 42, 3) := by decide +kernel
theorem dX3_init_86 : decode cX3_init 86 = .ok (.aload_n 0, 1) := by decide +kernel
theorem dX3_init_87 : decode cX3_init 87 = .ok (.sipush 1120, 3) := by decide +kernel
theorem dX3_init_90 : decode cX3_init 90 = .ok (.newarray .long, 2) := by decide +kernel
theorem dX3_init_92 : decode cX3_init 92 = .ok (.putfield 45, 3) := by decide +kernel
theorem dX3_init_95 : decode cX3_init 95 = .ok (.return_, 1) := by decide +kernel
theorem dX3_clear_0 : decode cX3_clear 0 = .ok (.aload_n 0, 1) := by decide +kernel
theorem dX3_clear_1 : decode cX3_clear 1 = .ok (.iconst 0, 1) := by decide +kernel
theorem dX3_clear_2 : decode cX3_clear 2 = .ok (.putfield 48, 3) := by decide +kernel
theorem dX3_clear_5 : decode cX3_clear 5 = .ok (.aload_n 0, 1) := by decide +kernel
theorem dX3_clear_6 : decode cX3_clear 6 = .ok (.iconst 0, 1) := by decide +kernel
theorem dX3_clear_7 : decode cX3_clear 7 = .ok (.putfield 52, 3) := by decide +kernel
theorem dX3_clear_10 : decode cX3_clear 10 = .ok (.iconst 0, 1) := by decide +kernel
theorem dX3_clear_11 : decode cX3_clear 11 = .ok (.istore_n 1, 1) := by decide +kernel
theorem dX3_clear_12 : decode cX3_clear 12 = .ok (.iload_n 1, 1) := by decide +kernel
theorem dX3_clear_13 : decode cX3_clear 13 = .ok (.bipush 7, 2) := by decide +kernel
theorem dX3_clear_15 : decode cX3_clear 15 = .ok (.if_icmp .ge 16, 3) := by decide +kernel
theorem dX3_clear_18 : decode cX3_clear 18 = .ok (.aload_n 0, 1) := by decide +kernel
theorem dX3_clear_19 : decode cX3_clear 19 = .ok (.getfield 36, 3) := by decide +kernel
theorem dX3_clear_22 : decode cX3_clear 22 = .ok (.iload_n 1, 1) := by decide +kernel
theorem dX3_clear_23 : decode cX3_clear 23 = .ok (.lconst 0, 1) := by decide +kernel
theorem dX3_clear_24 : decode cX3_clear 24 = .ok (.lastore, 1) := by decide +kernel
theorem dX3_clear_25 : decode cX3_clear 25 = .ok (.iinc 1 1, 3) := by decide +kernel
theorem dX3_clear_28 : decode cX3_clear 28 = .ok (.goto (-16), 3) := by decide +kernel
theorem dX3_clear_31 : decode cX3_clear 31 = .ok (.return_, 1) := by decide +kernel
theorem dX3_read_0 : decode cX3_read 0 = .ok (.aload_n 0, 1) := by decide +kernel
theorem dX3_read_1 : decode cX3_read 1 = .ok (.aload_n 1, 1) := by decide +kernel
theorem dX3_read_2 : decode cX3_read 2 = .ok (.putfield 61, 3) := by decide +kernel
theorem dX3_read_5 : decode cX3_read 5 = .ok (.aload_n 0, 1) := by decide +kernel
theorem dX3_read_6 : decode cX3_read 6 = .ok (.iload_n 2, 1) := by decide +kernel
theorem dX3_read_7 : decode cX3_read 7 = .ok (.putfield 58, 3) := by decide +kernel
theorem dX3_read_10 : decode cX3_read 10 = .ok (.aload_n 0, 1) := by decide +kernel
theorem dX3_read_11 : decode cX3_read 11 = .ok (.iconst 0, 1) := by decide +kernel
theorem dX3_read_12 : decode cX3_read 12 = .ok (.putfield 55, 3) := by decide +kernel
theorem dX3_read_15 : decode cX3_read 15 = .ok (.aload_n 0, 1) := by decide +kernel
theorem dX3_read_16 : decode cX3_read 16 = .ok (.getfield 48, 3) := by decide +kernel
theorem dX3_read_19 : decode cX3_read 19 = .ok (.istore_n 3, 1) := by decide +kernel
theorem dX3_read_20 : decode cX3_read 20 = .ok (.aload_n 0, 1) := by decide +kernel
theorem dX3_read_21 : decode cX3_read 21 = .ok (.invokevirtual 72, 3) := by decide +kernel
theorem dX3_read_24 : decode cX3_read 24 = .ok (.goto 15, 3) := by decide +kernel
theorem dX3_read_27 : decode cX3_read 27 = .ok (.astore 4, 2) := by decide +kernel
theorem dX3_read_29 : decode cX3_read 29 = .ok (.aload_n 0, 1) := by decide +kernel
theorem dX3_read_30 : decode cX3_read 30 = .ok (.iload_n 3, 1) := by decide +kernel
theorem dX3_read_31 : decode cX3_read 31 = .ok (.putfield 48, 3) := by decide +kernel
theorem dX3_read_34 : decode cX3_read 34 = .ok (.aload_n 0, 1) := by decide +kernel
theorem dX3_read_35 : decode cX3_read 35 = .ok (.getfield 12, 3) := by decide +kernel
theorem dX3_read_38 : decode cX3_read 38 = .ok (.athrow, 1) := by decide +kernel
theorem dX3_read_39 : decode cX3_read 39 = .ok (.return_, 1) := by decide +kernel
theorem dX3_whole_0 : decode cX3_whole 0 = .ok (.aload_n 0, 1) := by decide +kernel
theorem dX3_whole_1 : decode cX3_whole 1 = .ok (.iconst 0, 1) := by decide +kernel
theorem dX3_whole_2 : decode cX3_whole 2 = .ok (.putfield 75, 3) := by decide +kernel
theorem dX3_whole_5 : decode cX3_whole 5 = .ok (.aload_n 0, 1) := by decide +kernel
theorem dX3_whole_6 : decode cX3_whole 6 = .ok (.iconst 0, 1) := by decide +kernel
theorem dX3_whole_7 : decode cX3_whole 7 = .ok (.putfield 78, 3) := by decide +kernel
theorem dX3_whole_10 : decode cX3_whole 10 = .ok (.aload_n 0, 1) := by decide +kernel
theorem dX3_whole_11 : decode cX3_whole 11 = .ok (.invokevirtual 81, 3) := by decide +kernel
theorem dX3_whole_14 : decode cX3_whole 14 = .ok (.aload_n 0, 1) := by decide +kernel
theorem dX3_whole_15 : decode cX3_whole 15 = .ok (.invokevirtual 84, 3) := by decide +kernel
theorem dX3_whole_18 : decode cX3_whole 18 = .ok (.ifCond .lt 8, 3) := by decide +kernel
theorem dX3_whole_21 : decode cX3_whole 21 = .ok (.aload_n 0, 1) := by decide +kernel
theorem dX3_whole_22 : decode cX3_whole 22 = .ok (.invokevirtual 88, 3) := by decide +kernel
theorem dX3_whole_25 : decode cX3_whole 25 = .ok (.athrow, 1) := by decide +kernel
theorem dX3_whole_26 : decode cX3_whole 26 = .ok (.aload_n 0, 1) := by decide +kernel
theorem dX3_whole_27 : decode cX3_whole 27 = .ok (.dup, 1) := by decide +kernel
theorem dX3_whole_28 : decode cX3_whole 28 = .ok (.getfield 75, 3) := by decide +kernel
theorem dX3_whole_31 : decode cX3_whole 31 = .ok (.iconst 1, 1) := by decide +kernel
theorem dX3_whole_32 : decode cX3_whole 32 = .ok (.isub, 1) := by decide +kernel
theorem dX3_whole_33 : decode cX3_whole 33 = .ok (.putfield 75, 3) := by decide +kernel
theorem dX3_whole_36 : decode cX3_whole 36 = .ok (.iconst 0, 1) := by decide +kernel
theorem dX3_whole_37 : decode cX3_whole 37 = .ok (.istore_n 1, 1) := by decide +kernel
theorem dX3_whole_38 : decode cX3_whole 38 = .ok (.iload_n 1, 1) := by decide +kernel
theorem dX3_whole_39 : decode cX3_whole 39 = .ok (.bipush 7, 2) := by decide +kernel
theorem dX3_whole_41 : decode cX3_whole 41 = .ok (.if_icmp .ge 24, 3) := by decide +kernel
theorem dX3_whole_44 : decode cX3_whole 44 = .ok (.aload_n 0, 1) := by decide +kernel
theorem dX3_whole_45 : decode cX3_whole 45 = .ok (.getfield 36, 3) := by decide +kernel
theorem dX3_whole_48 : decode cX3_whole 48 = .ok (.iload_n 1, 1) := by decide +kernel
theorem dX3_whole_49 : decode cX3_whole 49 = .ok (.dup2, 1) := by decide +kernel
theorem dX3_whole_50 : decode cX3_whole 50 = .ok (.laload, 1) := by decide +kernel
theorem dX3_whole_51 : decode cX3_whole 51 = .ok (.aload_n 0, 1) := by decide +kernel
theorem dX3_whole_52 : decode cX3_whole 52 = .ok (.getfield 42, 3) := by decide +kernel
theorem dX3_whole_55 : decode cX3_whole 55 = .ok (.iload_n 1, 1) := by decide +kernel
theorem dX3_whole_56 : decode cX3_whole 56 = .ok (.laload, 1) := by decide +kernel
theorem dX3_whole_57 : decode cX3_whole 57 = .ok (.lor, 1) := by decide +kernel
theorem dX3_whole_58 : decode cX3_whole 58 = .ok (.lastore, 1) := by decide +kernel
theorem dX3_whole_59 : decode cX3_whole 59 = .ok (.iinc 1 1, 3) := by decide +kernel
theorem dX3_whole_62 : decode cX3_whole 62 = .ok (.goto (-24), 3) := by decide +kernel
theorem dX3_whole_65 : decode cX3_whole 65 = .ok (.iconst 0, 1) := by decide +kernel
theorem dX3_whole_66 : decode cX3_whole 66 = .ok (.istore_n 1, 1) := by decide +kernel
theorem dX3_whole_67 : decode cX3_whole 67 = .ok (.iload_n 1, 1) := by decide +kernel
theorem dX3_whole_68 : decode cX3_whole 68 = .ok (.aload_n 0, 1) := by decide +kernel
theorem dX3_whole_69 : decode cX3_whole 69 = .ok (.getfield 48, 3) := by decide +kernel
theorem dX3_whole_72 : decode cX3_whole 72 = .ok (.if_icmp .ge 37, 3) := by decide +kernel
theorem dX3_whole_75 : decode cX3_whole 75 = .ok (.aload_n 0, 1) := by decide +kernel
theorem dX3_whole_76 : decode cX3_whole 76 = .ok (.getfield 25, 3) := by decide +kernel
theorem dX3_whole_79 : decode cX3_whole 79 = .ok (.iload_n 1, 1) := by decide +kernel
theorem dX3_whole_80 : decode cX3_whole 80 = .ok (.iaload, 1) := by decide +kernel
theorem dX3_whole_81 : decode cX3_whole 81 = .ok (.aload_n 0, 1) := by decide +kernel
theorem dX3_whole_82 : decode cX3_whole 82 = .ok (.getfield 52, 3) := by decide +kernel
theorem dX3_whole_85 : decode cX3_whole 85 = .ok (.if_icmp .ne 18, 3) := by decide +kernel
theorem dX3_whole_88 : decode cX3_whole 88 = .ok (.aload_n 0, 1) := by decide +kernel
theorem dX3_whole_89 : decode cX3_whole 89 = .ok (.getfield 32, 3) := by decide +kernel
theorem dX3_whole_92 : decode cX3_whole 92 = .ok (.iload_n 1, 1) := by decide +kernel
theorem dX3_whole_93 : decode cX3_whole 93 = .ok (.aload_n 0, 1) := by decide +kernel
theorem dX3_whole_94 : decode cX3_whole 94 = .ok (.getfield 45, 3) := by decide +kernel
theorem dX3_whole_97 : decode cX3_whole 97 = .ok (.iconst 0, 1) := by decide +kernel
theorem dX3_whole_98 : decode cX3_whole 98 = .ok (.iload_n 1, 1) := by decide +kernel
theorem dX3_whole_99 : decode cX3_whole 99 = .ok (.invokestatic 91, 3) := by decide +kernel
theorem dX3_whole_102 : decode cX3_whole 102 = .ok (.bastore, 1) := by decide +kernel
theorem dX3_whole_103 : decode cX3_whole 103 = .ok (.iinc 1 1, 3) := by decide +kernel
theorem dX3_whole_106 : decode cX3_whole 106 = .ok (.goto (-39), 3) := by decide +kernel
theorem dX3_whole_109 : decode cX3_whole 109 = .ok (.aload_n 0, 1) := by decide +kernel
theorem dX3_whole_110 : decode cX3_whole 110 = .ok (.dup, 1) := by decide +kernel
theorem dX3_whole_111 : decode cX3_whole 111 = .ok (.getfield 52, 3) := by decide +kernel
theorem dX3_whole_114 : decode cX3_whole 114 = .ok (.iconst 1, 1) := by decide +kernel
theorem dX3_whole_115 : decode cX3_whole 115 = .ok (.iadd, 1) := by decide +kernel
theorem dX3_whole_116 : decode cX3_whole 116 = .ok (.putfield 52, 3) := by decide +kernel
theorem dX3_whole_119 : decode cX3_whole 119 = .ok (.return_, 1) := by decide +kernel
theorem dX3_either_0 : decode cX3_either 0 = .ok (.aload_n 0, 1) := by decide +kernel
theorem dX3_either_1 : decode cX3_either 1 = .ok (.invokevirtual 95, 3) := by decide +kernel
theorem dX3_either_4 : decode cX3_either 4 = .ok (.aload_n 0, 1) := by decide +kernel
theorem dX3_either_5 : decode cX3_either 5 = .ok (.invokevirtual 84, 3) := by decide +kernel
theorem dX3_either_8 : decode cX3_either 8 = .ok (.bipush 124, 2) := by decide +kernel
theorem dX3_either_10 : decode cX3_either 10 = .ok (.if_icmp .ne 124, 3) := by decide +kernel
theorem dX3_either_13 : decode cX3_either 13 = .ok (.aload_n 0, 1) := by decide +kernel
theorem dX3_either_14 : decode cX3_either 14 = .ok (.dup, 1) := by decide +kernel
theorem dX3_either_15 : decode cX3_either 15 = .ok (.getfield 55, 3) := by decide +kernel
theorem dX3_either_18 : decode cX3_either 18 = .ok (.iconst 1, 1) := by decide +kernel
theorem dX3_either_19 : decode cX3_either 19 = .ok (.iadd, 1) := by decide +kernel
theorem dX3_either_20 : decode cX3_either 20 = .ok (.putfield 55, 3) := by decide +kernel
theorem dX3_either_23 : decode cX3_either 23 = .ok (.aload_n 0, 1) := by decide +kernel
theorem dX3_either_24 : decode cX3_either 24 = .ok (.invokevirtual 95, 3) := by decide +kernel
theorem dX3_either_27 : decode cX3_either 27 = .ok (.aload_n 0, 1) := by decide +kernel
theorem dX3_either_28 : decode cX3_either 28 = .ok (.getfield 75, 3) := by decide +kernel
theorem dX3_either_31 : decode cX3_either 31 = .ok (.iconst 2, 1) := by decide +kernel
theorem dX3_either_32 : decode cX3_either 32 = .ok (.isub, 1) := by decide +kernel
theorem dX3_either_33 : decode cX3_either 33 = .ok (.istore_n 1, 1) := by decide +kernel
theorem dX3_either_34 : decode cX3_either 34 = .ok (.aload_n 0, 1) := by decide +kernel
theorem dX3_either_35 : decode cX3_either 35 = .ok (.getfield 39, 3) := by decide +kernel
theorem dX3_either_38 : decode cX3_either 38 = .ok (.iload_n 1, 1) := by decide +kernel
theorem dX3_either_39 : decode cX3_either 39 = .ok (.dup2, 1) := by decide +kernel
theorem dX3_either_40 : decode cX3_either 40 = .ok (.baload, 1) := by decide +kernel
theorem dX3_either_41 : decode cX3_either 41 = .ok (.aload_n 0, 1) := by decide +kernel
theorem dX3_either_42 : decode cX3_either 42 = .ok (.getfield 39, 3) := by decide +kernel
theorem dX3_either_45 : decode cX3_either 45 = .ok (.iload_n 1, 1) := by decide +kernel
theorem dX3_either_46 : decode cX3_either 46 = .ok (.iconst 1, 1) := by decide +kernel
theorem dX3_either_47 : decode cX3_either 47 = .ok (.iadd, 1) := by decide +kernel
theorem dX3_either_48 : decode cX3_either 48 = .ok (.baload, 1) := by decide +kernel
theorem dX3_either_49 : decode cX3_either 49 = .ok (.ior, 1) := by decide +kernel
theorem dX3_either_50 : decode cX3_either 50 = .ok (.bastore, 1) := by decide +kernel
theorem dX3_either_51 : decode cX3_either 51 = .ok (.iconst 0, 1) := by decide +kernel
theorem dX3_either_52 : decode cX3_either 52 = .ok (.istore_n 2, 1) := by decide +kernel
theorem dX3_either_53 : decode cX3_either 53 = .ok (.iload_n 2, 1) := by decide +kernel
theorem dX3_either_54 : decode cX3_either 54 = .ok (.bipush 7, 2) := by decide +kernel
theorem dX3_either_56 : decode cX3_either 56 = .ok (.if_icmp .ge 65, 3) := by decide +kernel
theorem dX3_either_59 : decode cX3_either 59 = .ok (.aload_n 0, 1) := by decide +kernel
theorem dX3_either_60 : decode cX3_either 60 = .ok (.getfield 42, 3) := by decide +kernel
theorem dX3_either_63 : decode cX3_either 63 = .ok (.bipush 7, 2) := by decide +kernel
theorem dX3_either_65 : decode cX3_either 65 = .ok (.iload_n 1, 1) := by decide +kernel
theorem dX3_either_66 : decode cX3_either 66 = .ok (.imul, 1) := by decide +kernel
theorem dX3_either_67 : decode cX3_either 67 = .ok (.iload_n 2, 1) := by decide +kernel
theorem dX3_either_68 : decode cX3_either 68 = .ok (.iadd, 1) := by decide +kernel
theorem dX3_either_69 : decode cX3_either 69 = .ok (.dup2, 1) := by decide +kernel
theorem dX3_either_70 : decode cX3_either 70 = .ok (.laload, 1) := by decide +kernel
theorem dX3_either_71 : decode cX3_either 71 = .ok (.aload_n 0, 1) := by decide +kernel
theorem dX3_either_72 : decode cX3_either 72 = .ok (.getfield 42, 3) := by decide +kernel
theorem dX3_either_75 : decode cX3_either 75 = .ok (.bipush 7, 2) := by decide +kernel
theorem dX3_either_77 : decode cX3_either 77 = .ok (.iload_n 1, 1) := by decide +kernel
theorem dX3_either_78 : decode cX3_either 78 = .ok (.imul, 1) := by decide +kernel
theorem dX3_either_79 : decode cX3_either 79 = .ok (.bipush 7, 2) := by decide +kernel
theorem dX3_either_81 : decode cX3_either 81 = .ok (.iadd, 1) := by decide +kernel
theorem dX3_either_82 : decode cX3_either 82 = .ok (.iload_n 2, 1) := by decide +kernel
theorem dX3_either_83 : decode cX3_either 83 = .ok (.iadd, 1) := by decide +kernel
theorem dX3_either_84 : decode cX3_either 84 = .ok (.laload, 1) := by decide +kernel
theorem dX3_either_85 : decode cX3_either 85 = .ok (.lor, 1) := by decide +kernel
theorem dX3_either_86 : decode cX3_either 86 = .ok (.lastore, 1) := by decide +kernel
theorem dX3_either_87 : decode cX3_either 87 = .ok (.aload_n 0, 1) := by decide +kernel
theorem dX3_either_88 : decode cX3_either 88 = .ok (.getfield 45, 3) := by decide +kernel
theorem dX3_either_91 : decode cX3_either 91 = .ok (.bipush 7, 2) := by decide +kernel
theorem dX3_either_93 : decode cX3_either 93 = .ok (.iload_n 1, 1) := by decide +kernel
theorem dX3_either_94 : decode cX3_either 94 = .ok (.imul, 1) := by decide +kernel
theorem dX3_either_95 : decode cX3_either 95 = .ok (.iload_n 2, 1) := by decide +kernel
theorem dX3_either_96 : decode cX3_either 96 = .ok (.iadd, 1) := by decide +kernel
theorem dX3_either_97 : decode cX3_either 97 = .ok (.dup2, 1) := by decide +kernel
theorem dX3_either_98 : decode cX3_either 98 = .ok (.laload, 1) := by decide +kernel
theorem dX3_either_99 : decode cX3_either 99 = .ok (.aload_n 0, 1) := by decide +kernel
theorem dX3_either_100 : decode cX3_either 100 = .ok (.getfield 45, 3) := by decide +kernel
theorem dX3_either_103 : decode cX3_either 103 = .ok (.bipush 7, 2) := by decide +kernel
theorem dX3_either_105 : decode cX3_either 105 = .ok (.iload_n 1, 1) := by decide +kernel
theorem dX3_either_106 : decode cX3_either 106 = .ok (.imul, 1) := by decide +kernel
theorem dX3_either_107 : decode cX3_either 107 = .ok (.bipush 7, 2) := by decide +kernel
theorem dX3_either_109 : decode cX3_either 109 = .ok (.iadd, 1) := by decide +kernel
theorem dX3_either_110 : decode cX3_either 110 = .ok (.iload_n 2, 1) := by decide +kernel
theorem dX3_either_111 : decode cX3_either 111 = .ok (.iadd, 1) := by decide +kernel
theorem dX3_either_112 : decode cX3_either 112 = .ok (.laload, 1) := by decide +kernel
theorem dX3_either_113 : decode cX3_either 113 = .ok (.lor, 1) := by decide +kernel
theorem dX3_either_114 : decode cX3_either 114 = .ok (.lastore, 1) := by decide +kernel
theorem dX3_either_115 : decode cX3_either 115 = .ok (.iinc 2 1, 3) := by decide +kernel
theorem dX3_either_118 : decode cX3_either 118 = .ok (.goto (-65), 3) := by decide +kernel
theorem dX3_either_121 : decode cX3_either 121 = .ok (.aload_n 0, 1) := by decide +kernel
theorem dX3_either_122 : decode cX3_either 122 = .ok (.dup, 1) := by decide +kernel
theorem dX3_either_123 : decode cX3_either 123 = .ok (.getfield 75, 3) := by decide +kernel
theorem dX3_either_126 : decode cX3_either 126 = .ok (.iconst 1, 1) := by decide +kernel
theorem dX3_either_127 : decode cX3_either 127 = .ok (.isub, 1) := by decide +kernel
theorem dX3_either_128 : decode cX3_either 128 = .ok (.putfield 75, 3) := by decide +kernel
theorem dX3_either_131 : decode cX3_either 131 = .ok (.goto (-127), 3) := by decide +kernel
theorem dX3_either_134 : decode cX3_either 134 = .ok (.return_, 1) := by decide +kernel
theorem dX3_several_0 : decode cX3_several 0 = .ok (.aload_n 0, 1) := by decide +kernel
theorem dX3_several_1 : decode cX3_several 1 = .ok (.iconst 1, 1) := by decide +kernel
theorem dX3_several_2 : decode cX3_several 2 = .ok (.invokevirtual 98, 3) := by decide +kernel
theorem dX3_several_5 : decode cX3_several 5 = .ok (.pop, 1) := by decide +kernel
theorem dX3_several_6 : decode cX3_several 6 = .ok (.aload_n 0, 1) := by decide +kernel
theorem dX3_several_7 : decode cX3_several 7 = .ok (.invokevirtual 102, 3) := by decide +kernel
theorem dX3_several_10 : decode cX3_several 10 = .ok (.ifCond .ne 36, 3) := by decide +kernel
theorem dX3_several_13 : decode cX3_several 13 = .ok (.aload_n 0, 1) := by decide +kernel
theorem dX3_several_14 : decode cX3_several 14 = .ok (.invokevirtual 106, 3) := by decide +kernel
theorem dX3_several_17 : decode cX3_several 17 = .ok (.aload_n 0, 1) := by decide +kernel
theorem dX3_several_18 : decode cX3_several 18 = .ok (.aload_n 0, 1) := by decide +kernel
theorem dX3_several_19 : decode cX3_several 19 = .ok (.getfield 75, 3) := by decide +kernel
theorem dX3_several_22 : decode cX3_several 22 = .ok (.iconst 2, 1) := by decide +kernel
theorem dX3_several_23 : decode cX3_several 23 = .ok (.isub, 1) := by decide +kernel
theorem dX3_several_24 : decode cX3_several 24 = .ok (.aload_n 0, 1) := by decide +kernel
theorem dX3_several_25 : decode cX3_several 25 = .ok (.getfield 75, 3) := by decide +kernel
theorem dX3_several_28 : decode cX3_several 28 = .ok (.iconst 1, 1) := by decide +kernel
theorem dX3_several_29 : decode cX3_several 29 = .ok (.isub, 1) := by decide +kernel
theorem dX3_several_30 : decode cX3_several 30 = .ok (.invokevirtual 109, 3) := by decide +kernel
theorem dX3_several_33 : decode cX3_several 33 = .ok (.aload_n 0, 1) := by decide +kernel
theorem dX3_several_34 : decode cX3_several 34 = .ok (.dup, 1) := by decide +kernel
theorem dX3_several_35 : decode cX3_several 35 = .ok (.getfield 75, 3) := by decide +kernel
theorem dX3_several_38 : decode cX3_several 38 = .ok (.iconst 1, 1) := by decide +kernel
theorem dX3_several_39 : decode cX3_several 39 = .ok (.isub, 1) := by decide +kernel
theorem dX3_several_40 : decode cX3_several 40 = .ok (.putfield 75, 3) := by decide +kernel
theorem dX3_several_43 : decode cX3_several 43 = .ok (.goto (-37), 3) := by decide +kernel
theorem dX3_several_46 : decode cX3_several 46 = .ok (.return_, 1) := by decide +kernel
theorem dX3_push_0 : decode cX3_push 0 = .ok (.aload_n 0, 1) := by decide +kernel
theorem dX3_push_1 : decode cX3_push 1 = .ok (.getfield 39, 3) := by decide +kernel
theorem dX3_push_4 : decode cX3_push 4 = .ok (.aload_n 0, 1) := by decide +kernel
theorem dX3_push_5 : decode cX3_push 5 = .ok (.getfield 75, 3) := by decide +kernel
theorem dX3_push_8 : decode cX3_push 8 = .ok (.iload_n 1, 1) := by decide +kernel
theorem dX3_push_9 : decode cX3_push 9 = .ok (.bastore, 1) := by decide +kernel
theorem dX3_push_10 : decode cX3_push 10 = .ok (.iconst 0, 1) := by decide +kernel
theorem dX3_push_11 : decode cX3_push 11 = .ok (.istore_n 2, 1) := by decide +kernel
theorem dX3_push_12 : decode cX3_push 12 = .ok (.iload_n 2, 1) := by decide +kernel
theorem dX3_push_13 : decode cX3_push 13 = .ok (.bipush 7, 2) := by decide +kernel
theorem dX3_push_15 : decode cX3_push 15 = .ok (.if_icmp .ge 39, 3) := by decide +kernel
theorem dX3_push_18 : decode cX3_push 18 = .ok (.aload_n 0, 1) := by decide +kernel
theorem dX3_push_19 : decode cX3_push 19 = .ok (.getfield 42, 3) := by decide +kernel
theorem dX3_push_22 : decode cX3_push 22 = .ok (.bipush 7, 2) := by decide +kernel
theorem dX3_push_24 : decode cX3_push 24 = .ok (.aload_n 0, 1) := by decide +kernel
theorem dX3_push_25 : decode cX3_push 25 = .ok (.getfield 75, 3) := by decide +kernel
theorem dX3_push_28 : decode cX3_push 28 = .ok (.imul, 1) := by decide +kernel
theorem dX3_push_29 : decode cX3_push 29 = .ok (.iload_n 2, 1) := by decide +kernel
theorem dX3_push_30 : decode cX3_push 30 = .ok (.iadd, 1) := by decide +kernel
theorem dX3_push_31 : decode cX3_push 31 = .ok (.lconst 0, 1) := by decide +kernel
theorem dX3_push_32 : decode cX3_push 32 = .ok (.lastore, 1) := by decide +kernel
theorem dX3_push_33 : decode cX3_push 33 = .ok (.aload_n 0, 1) := by decide +kernel
theorem dX3_push_34 : decode cX3_push 34 = .ok (.getfield 45, 3) := by decide +kernel
theorem dX3_push_37 : decode cX3_push 37 = .ok (.bipush 7, 2) := by decide +kernel
theorem dX3_push_39 : decode cX3_push 39 = .ok (.aload_n 0, 1) := by decide +kernel
theorem dX3_push_40 : decode cX3_push 40 = .ok (.getfield 75, 3) := by decide +kernel
theorem dX3_push_43 : decode cX3_push 43 = .ok (.imul, 1) := by decide +kernel
theorem dX3_push_44 : decode cX3_push 44 = .ok (.iload_n 2, 1) := by decide +kernel
theorem dX3_push_45 : decode cX3_push 45 = .ok (.iadd, 1) := by decide +kernel
theorem dX3_push_46 : decode cX3_push 46 = .ok (.lconst 0, 1) := by decide +kernel
theorem dX3_push_47 : decode cX3_push 47 = .ok (.lastore, 1) := by decide +kernel
theorem dX3_push_48 : decode cX3_push 48 = .ok (.iinc 2 1, 3) := by decide +kernel
theorem dX3_push_51 : decode cX3_push 51 = .ok (.goto (-39), 3) := by decide +kernel
theorem dX3_push_54 : decode cX3_push 54 = .ok (.aload_n 0, 1) := by decide +kernel
theorem dX3_push_55 : decode cX3_push 55 = .ok (.dup, 1) := by decide +kernel
theorem dX3_push_56 : decode cX3_push 56 = .ok (.getfield 75, 3) := by decide +kernel
theorem dX3_push_59 : decode cX3_push 59 = .ok (.iconst 1, 1) := by decide +kernel
theorem dX3_push_60 : decode cX3_push 60 = .ok (.iadd, 1) := by decide +kernel
theorem dX3_push_61 : decode cX3_push 61 = .ok (.putfield 75, 3) := by decide +kernel
theorem dX3_push_64 : decode cX3_push 64 = .ok (.aload_n 0, 1) := by decide +kernel
theorem dX3_push_65 : decode cX3_push 65 = .ok (.getfield 75, 3) := by decide +kernel
theorem dX3_push_68 : decode cX3_push 68 = .ok (.iconst 1, 1) := by decide +kernel
theorem dX3_push_69 : decode cX3_push 69 = .ok (.isub, 1) := by decide +kernel
theorem dX3_push_70 : decode cX3_push 70 = .ok (.ireturn, 1) := by decide +kernel
theorem dX3_ends_0 : decode cX3_ends 0 = .ok (.aload_n 0, 1) := by decide +kernel
theorem dX3_ends_1 : decode cX3_ends 1 = .ok (.invokevirtual 84, 3) := by decide +kernel
theorem dX3_ends_4 : decode cX3_ends 4 = .ok (.ifCond .lt 30, 3) := by decide +kernel
theorem dX3_ends_7 : decode cX3_ends 7 = .ok (.aload_n 0, 1) := by decide +kernel
theorem dX3_ends_8 : decode cX3_ends 8 = .ok (.invokevirtual 84, 3) := by decide +kernel
theorem dX3_ends_11 : decode cX3_ends 11 = .ok (.bipush 47, 2) := by decide +kernel
theorem dX3_ends_13 : decode cX3_ends 13 = .ok (.if_icmp .eq 21, 3) := by decide +kernel
theorem dX3_ends_16 : decode cX3_ends 16 = .ok (.aload_n 0, 1) := by decide +kernel
theorem dX3_ends_17 : decode cX3_ends 17 = .ok (.invokevirtual 84, 3) := by decide +kernel
theorem dX3_ends_20 : decode cX3_ends 20 = .ok (.bipush 124, 2) := by decide +kernel
theorem dX3_ends_22 : decode cX3_ends 22 = .ok (.if_icmp .eq 12, 3) := by decide +kernel
theorem dX3_ends_25 : decode cX3_ends 25 = .ok (.aload_n 0, 1) := by decide +kernel
theorem dX3_ends_26 : decode cX3_ends 26 = .ok (.invokevirtual 84, 3) := by decide +kernel
theorem dX3_ends_29 : decode cX3_ends 29 = .ok (.bipush 41, 2) := by decide +kernel
theorem dX3_ends_31 : decode cX3_ends 31 = .ok (.if_icmp .ne 7, 3) := by decide +kernel
theorem dX3_ends_34 : decode cX3_ends 34 = .ok (.iconst 1, 1) := by decide +kernel
theorem dX3_ends_35 : decode cX3_ends 35 = .ok (.goto 4, 3) := by decide +kernel
theorem dX3_ends_38 : decode cX3_ends 38 = .ok (.iconst 0, 1) := by decide +kernel
theorem dX3_ends_39 : decode cX3_ends 39 = .ok (.ireturn, 1) := by decide +kernel
theorem dX3_c_0 : decode cX3_c 0 = .ok (.aload_n 0, 1) := by decide +kernel
theorem dX3_c_1 : decode cX3_c 1 = .ok (.getfield 55, 3) := by decide +kernel
theorem dX3_c_4 : decode cX3_c 4 = .ok (.aload_n 0, 1) := by decide +kernel
theorem dX3_c_5 : decode cX3_c 5 = .ok (.getfield 58, 3) := by decide +kernel
theorem dX3_c_8 : decode cX3_c 8 = .ok (.if_icmp .ge 19, 3) := by decide +kernel
theorem dX3_c_11 : decode cX3_c 11 = .ok (.aload_n 0, 1) := by decide +kernel
theorem dX3_c_12 : decode cX3_c 12 = .ok (.getfield 61, 3) := by decide +kernel
theorem dX3_c_15 : decode cX3_c 15 = .ok (.aload_n 0, 1) := by decide +kernel
theorem dX3_c_16 : decode cX3_c 16 = .ok (.getfield 55, 3) := by decide +kernel
theorem dX3_c_19 : decode cX3_c 19 = .ok (.baload, 1) := by decide +kernel
theorem dX3_c_20 : decode cX3_c 20 = .ok (.sipush 255, 3) := by decide +kernel
theorem dX3_c_23 : decode cX3_c 23 = .ok (.iand, 1) := by decide +kernel
theorem dX3_c_24 : decode cX3_c 24 = .ok (.goto 4, 3) := by decide +kernel
theorem dX3_c_27 : decode cX3_c 27 = .ok (.iconst (-1), 1) := by decide +kernel
theorem dX3_c_28 : decode cX3_c 28 = .ok (.ireturn, 1) := by decide +kernel
theorem dX3_repeated_0 : decode cX3_repeated 0 = .ok (.aload_n 0, 1) := by decide +kernel
theorem dX3_repeated_1 : decode cX3_repeated 1 = .ok (.invokevirtual 116, 3) := by decide +kernel
theorem dX3_repeated_4 : decode cX3_repeated 4 = .ok (.aload_n 0, 1) := by decide +kernel
theorem dX3_repeated_5 : decode cX3_repeated 5 = .ok (.invokevirtual 84, 3) := by decide +kernel
theorem dX3_repeated_8 : decode cX3_repeated 8 = .ok (.bipush 42, 2) := by decide +kernel
theorem dX3_repeated_10 : decode cX3_repeated 10 = .ok (.if_icmp .eq 21, 3) := by decide +kernel
theorem dX3_repeated_13 : decode cX3_repeated 13 = .ok (.aload_n 0, 1) := by decide +kernel
theorem dX3_repeated_14 : decode cX3_repeated 14 = .ok (.invokevirtual 84, 3) := by decide +kernel
theorem dX3_repeated_17 : decode cX3_repeated 17 = .ok (.bipush 43, 2) := by decide +kernel
theorem dX3_repeated_19 : decode cX3_repeated 19 = .ok (.if_icmp .eq 12, 3) := by decide +kernel
theorem dX3_repeated_22 : decode cX3_repeated 22 = .ok (.aload_n 0, 1) := by decide +kernel
theorem dX3_repeated_23 : decode cX3_repeated 23 = .ok (.invokevirtual 84, 3) := by decide +kernel
theorem dX3_repeated_26 : decode cX3_repeated 26 = .ok (.bipush 63, 2) := by decide +kernel
theorem dX3_repeated_28 : decode cX3_repeated 28 = .ok (.if_icmp .ne 62, 3) := by decide +kernel
theorem dX3_repeated_31 : decode cX3_repeated 31 = .ok (.aload_n 0, 1) := by decide +kernel
theorem dX3_repeated_32 : decode cX3_repeated 32 = .ok (.invokevirtual 84, 3) := by decide +kernel
theorem dX3_repeated_35 : decode cX3_repeated 35 = .ok (.bipush 63, 2) := by decide +kernel
theorem dX3_repeated_37 : decode cX3_repeated 37 = .ok (.if_icmp .eq 19, 3) := by decide +kernel
theorem dX3_repeated_40 : decode cX3_repeated 40 = .ok (.aload_n 0, 1) := by decide +kernel
theorem dX3_repeated_41 : decode cX3_repeated 41 = .ok (.aload_n 0, 1) := by decide +kernel
theorem dX3_repeated_42 : decode cX3_repeated 42 = .ok (.getfield 75, 3) := by decide +kernel
theorem dX3_repeated_45 : decode cX3_repeated 45 = .ok (.iconst 1, 1) := by decide +kernel
theorem dX3_repeated_46 : decode cX3_repeated 46 = .ok (.isub, 1) := by decide +kernel
theorem dX3_repeated_47 : decode cX3_repeated 47 = .ok (.aload_n 0, 1) := by decide +kernel
theorem dX3_repeated_48 : decode cX3_repeated 48 = .ok (.getfield 75, 3) := by decide +kernel
theorem dX3_repeated_51 : decode cX3_repeated 51 = .ok (.iconst 1, 1) := by decide +kernel
theorem dX3_repeated_52 : decode cX3_repeated 52 = .ok (.isub, 1) := by decide +kernel
theorem dX3_repeated_53 : decode cX3_repeated 53 = .ok (.invokevirtual 113, 3) := by decide +kernel
theorem dX3_repeated_56 : decode cX3_repeated 56 = .ok (.aload_n 0, 1) := by decide +kernel
theorem dX3_repeated_57 : decode cX3_repeated 57 = .ok (.invokevirtual 84, 3) := by decide +kernel
theorem dX3_repeated_60 : decode cX3_repeated 60 = .ok (.bipush 43, 2) := by decide +kernel
theorem dX3_repeated_62 : decode cX3_repeated 62 = .ok (.if_icmp .eq 15, 3) := by decide +kernel
theorem dX3_repeated_65 : decode cX3_repeated 65 = .ok (.aload_n 0, 1) := by decide +kernel
theorem dX3_repeated_66 : decode cX3_repeated 66 = .ok (.getfield 39, 3) := by decide +kernel
theorem dX3_repeated_69 : decode cX3_repeated 69 = .ok (.aload_n 0, 1) := by decide +kernel
theorem dX3_repeated_70 : decode cX3_repeated 70 = .ok (.getfield 75, 3) := by decide +kernel
theorem dX3_repeated_73 : decode cX3_repeated 73 = .ok (.iconst 1, 1) := by decide +kernel
theorem dX3_repeated_74 : decode cX3_repeated 74 = .ok (.isub, 1) := by decide +kernel
theorem dX3_repeated_75 : decode cX3_repeated 75 = .ok (.iconst 1, 1) := by decide +kernel
theorem dX3_repeated_76 : decode cX3_repeated 76 = .ok (.bastore, 1) := by decide +kernel
theorem dX3_repeated_77 : decode cX3_repeated 77 = .ok (.aload_n 0, 1) := by decide +kernel
theorem dX3_repeated_78 : decode cX3_repeated 78 = .ok (.dup, 1) := by decide +kernel
theorem dX3_repeated_79 : decode cX3_repeated 79 = .ok (.getfield 55, 3) := by decide +kernel
theorem dX3_repeated_82 : decode cX3_repeated 82 = .ok (.iconst 1, 1) := by decide +kernel
theorem dX3_repeated_83 : decode cX3_repeated 83 = .ok (.iadd, 1) := by decide +kernel
theorem dX3_repeated_84 : decode cX3_repeated 84 = .ok (.putfield 55, 3) := by decide +kernel
theorem dX3_repeated_87 : decode cX3_repeated 87 = .ok (.goto (-83), 3) := by decide +kernel
theorem dX3_repeated_90 : decode cX3_repeated 90 = .ok (.return_, 1) := by decide +kernel
theorem dX3_one_0 : decode cX3_one 0 = .ok (.aload_n 0, 1) := by decide +kernel
theorem dX3_one_1 : decode cX3_one 1 = .ok (.invokevirtual 84, 3) := by decide +kernel
theorem dX3_one_4 : decode cX3_one 4 = .ok (.bipush 40, 2) := by decide +kernel
theorem dX3_one_6 : decode cX3_one 6 = .ok (.if_icmp .ne 76, 3) := by decide +kernel
theorem dX3_one_9 : decode cX3_one 9 = .ok (.aload_n 0, 1) := by decide +kernel
theorem dX3_one_10 : decode cX3_one 10 = .ok (.getfield 78, 3) := by decide +kernel
theorem dX3_one_13 : decode cX3_one 13 = .ok (.bipush 40, 2) := by decide +kernel
theorem dX3_one_15 : decode cX3_one 15 = .ok (.if_icmp .ne 8, 3) := by decide +kernel
theorem dX3_one_18 : decode cX3_one 18 = .ok (.aload_n 0, 1) := by decide +kernel
theorem dX3_one_19 : decode cX3_one 19 = .ok (.invokevirtual 88, 3) := by decide +kernel
theorem dX3_one_22 : decode cX3_one 22 = .ok (.athrow, 1) := by decide +kernel
theorem dX3_one_23 : decode cX3_one 23 = .ok (.aload_n 0, 1) := by decide +kernel
theorem dX3_one_24 : decode cX3_one 24 = .ok (.dup, 1) := by decide +kernel
theorem dX3_one_25 : decode cX3_one 25 = .ok (.getfield 78, 3) := by decide +kernel
theorem dX3_one_28 : decode cX3_one 28 = .ok (.iconst 1, 1) := by decide +kernel
theorem dX3_one_29 : decode cX3_one 29 = .ok (.iadd, 1) := by decide +kernel
theorem dX3_one_30 : decode cX3_one 30 = .ok (.putfield 78, 3) := by decide +kernel
theorem dX3_one_33 : decode cX3_one 33 = .ok (.aload_n 0, 1) := by decide +kernel
theorem dX3_one_34 : decode cX3_one 34 = .ok (.dup, 1) := by decide +kernel
theorem dX3_one_35 : decode cX3_one 35 = .ok (.getfield 55, 3) := by decide +kernel
theorem dX3_one_38 : decode cX3_one 38 = .ok (.iconst 1, 1) := by decide +kernel
theorem dX3_one_39 : decode cX3_one 39 = .ok (.iadd, 1) := by decide +kernel
theorem dX3_one_40 : decode cX3_one 40 = .ok (.putfield 55, 3) := by decide +kernel
theorem dX3_one_43 : decode cX3_one 43 = .ok (.aload_n 0, 1) := by decide +kernel
theorem dX3_one_44 : decode cX3_one 44 = .ok (.invokevirtual 81, 3) := by decide +kernel
theorem dX3_one_47 : decode cX3_one 47 = .ok (.aload_n 0, 1) := by decide +kernel
theorem dX3_one_48 : decode cX3_one 48 = .ok (.invokevirtual 84, 3) := by decide +kernel
theorem dX3_one_51 : decode cX3_one 51 = .ok (.bipush 41, 2) := by decide +kernel
theorem dX3_one_53 : decode cX3_one 53 = .ok (.if_icmp .eq 8, 3) := by decide +kernel
theorem dX3_one_56 : decode cX3_one 56 = .ok (.aload_n 0, 1) := by decide +kernel
theorem dX3_one_57 : decode cX3_one 57 = .ok (.invokevirtual 88, 3) := by decide +kernel
theorem dX3_one_60 : decode cX3_one 60 = .ok (.athrow, 1) := by decide +kernel
theorem dX3_one_61 : decode cX3_one 61 = .ok (.aload_n 0, 1) := by decide +kernel
theorem dX3_one_62 : decode cX3_one 62 = .ok (.dup, 1) := by decide +kernel
theorem dX3_one_63 : decode cX3_one 63 = .ok (.getfield 55, 3) := by decide +kernel
theorem dX3_one_66 : decode cX3_one 66 = .ok (.iconst 1, 1) := by decide +kernel
theorem dX3_one_67 : decode cX3_one 67 = .ok (.iadd, 1) := by decide +kernel
theorem dX3_one_68 : decode cX3_one 68 = .ok (.putfield 55, 3) := by decide +kernel
theorem dX3_one_71 : decode cX3_one 71 = .ok (.aload_n 0, 1) := by decide +kernel
theorem dX3_one_72 : decode cX3_one 72 = .ok (.dup, 1) := by decide +kernel
theorem dX3_one_73 : decode cX3_one 73 = .ok (.getfield 78, 3) := by decide +kernel
theorem dX3_one_76 : decode cX3_one 76 = .ok (.iconst 1, 1) := by decide +kernel
theorem dX3_one_77 : decode cX3_one 77 = .ok (.isub, 1) := by decide +kernel
theorem dX3_one_78 : decode cX3_one 78 = .ok (.putfield 78, 3) := by decide +kernel
theorem dX3_one_81 : decode cX3_one 81 = .ok (.return_, 1) := by decide +kernel
theorem dX3_one_82 : decode cX3_one 82 = .ok (.aload_n 0, 1) := by decide +kernel
theorem dX3_one_83 : decode cX3_one 83 = .ok (.invokevirtual 119, 3) := by decide +kernel
theorem dX3_one_86 : decode cX3_one 86 = .ok (.istore_n 1, 1) := by decide +kernel
theorem dX3_one_87 : decode cX3_one 87 = .ok (.aload_n 0, 1) := by decide +kernel
theorem dX3_one_88 : decode cX3_one 88 = .ok (.invokevirtual 84, 3) := by decide +kernel
theorem dX3_one_91 : decode cX3_one 91 = .ok (.bipush 91, 2) := by decide +kernel
theorem dX3_one_93 : decode cX3_one 93 = .ok (.if_icmp .ne 11, 3) := by decide +kernel
theorem dX3_one_96 : decode cX3_one 96 = .ok (.aload_n 0, 1) := by decide +kernel
theorem dX3_one_97 : decode cX3_one 97 = .ok (.iload_n 1, 1) := by decide +kernel
theorem dX3_one_98 : decode cX3_one 98 = .ok (.invokevirtual 122, 3) := by decide +kernel
theorem dX3_one_101 : decode cX3_one 101 = .ok (.goto 56, 3) := by decide +kernel
theorem dX3_one_104 : decode cX3_one 104 = .ok (.aload_n 0, 1) := by decide +kernel
theorem dX3_one_105 : decode cX3_one 105 = .ok (.invokevirtual 84, 3) := by decide +kernel
theorem dX3_one_108 : decode cX3_one 108 = .ok (.bipush 46, 2) := by decide +kernel
theorem dX3_one_110 : decode cX3_one 110 = .ok (.if_icmp .ne 34, 3) := by decide +kernel
theorem dX3_one_113 : decode cX3_one 113 = .ok (.aload_n 0, 1) := by decide +kernel
theorem dX3_one_114 : decode cX3_one 114 = .ok (.dup, 1) := by decide +kernel
theorem dX3_one_115 : decode cX3_one 115 = .ok (.getfield 55, 3) := by decide +kernel
theorem dX3_one_118 : decode cX3_one 118 = .ok (.iconst 1, 1) := by decide +kernel
theorem dX3_one_119 : decode cX3_one 119 = .ok (.iadd, 1) := by decide +kernel
theorem dX3_one_120 : decode cX3_one 120 = .ok (.putfield 55, 3) := by decide +kernel
theorem dX3_one_123 : decode cX3_one 123 = .ok (.aload_n 0, 1) := by decide +kernel
theorem dX3_one_124 : decode cX3_one 124 = .ok (.getfield 18, 3) := by decide +kernel
theorem dX3_one_127 : decode cX3_one 127 = .ok (.iload_n 1, 1) := by decide +kernel
theorem dX3_one_128 : decode cX3_one 128 = .ok (.ldc2_w 126, 3) := by decide +kernel
theorem dX3_one_131 : decode cX3_one 131 = .ok (.lastore, 1) := by decide +kernel
theorem dX3_one_132 : decode cX3_one 132 = .ok (.aload_n 0, 1) := by decide +kernel
theorem dX3_one_133 : decode cX3_one 133 = .ok (.getfield 22, 3) := by decide +kernel
theorem dX3_one_136 : decode cX3_one 136 = .ok (.iload_n 1, 1) := by decide +kernel
theorem dX3_one_137 : decode cX3_one 137 = .ok (.ldc2_w 128, 3) := by decide +kernel
theorem dX3_one_140 : decode cX3_one 140 = .ok (.lastore, 1) := by decide +kernel
theorem dX3_one_141 : decode cX3_one 141 = .ok (.goto 16, 3) := by decide +kernel
theorem dX3_one_144 : decode cX3_one 144 = .ok (.aload_n 0, 1) := by decide +kernel
theorem dX3_one_145 : decode cX3_one 145 = .ok (.iconst 0, 1) := by decide +kernel
theorem dX3_one_146 : decode cX3_one 146 = .ok (.invokevirtual 130, 3) := by decide +kernel
theorem dX3_one_149 : decode cX3_one 149 = .ok (.istore_n 2, 1) := by decide +kernel
theorem dX3_one_150 : decode cX3_one 150 = .ok (.aload_n 0, 1) := by decide +kernel
theorem dX3_one_151 : decode cX3_one 151 = .ok (.iload_n 1, 1) := by decide +kernel
theorem dX3_one_152 : decode cX3_one 152 = .ok (.iload_n 2, 1) := by decide +kernel
theorem dX3_one_153 : decode cX3_one 153 = .ok (.iload_n 2, 1) := by decide +kernel
theorem dX3_one_154 : decode cX3_one 154 = .ok (.invokevirtual 133, 3) := by decide +kernel
theorem dX3_one_157 : decode cX3_one 157 = .ok (.return_, 1) := by decide +kernel
theorem dX3_fail_0 : decode cX3_fail 0 = .ok (.aload_n 0, 1) := by decide +kernel
theorem dX3_fail_1 : decode cX3_fail 1 = .ok (.aload_n 0, 1) := by decide +kernel
theorem dX3_fail_2 : decode cX3_fail 2 = .ok (.getfield 55, 3) := by decide +kernel
theorem dX3_fail_5 : decode cX3_fail 5 = .ok (.invokevirtual 68, 3) := by decide +kernel
theorem dX3_fail_8 : decode cX3_fail 8 = .ok (.areturn, 1) := by decide +kernel
theorem dX3_fail_2_0 : decode cX3_fail_2 0 = .ok (.aload_n 0, 1) := by decide +kernel
theorem dX3_fail_2_1 : decode cX3_fail_2 1 = .ok (.iload_n 1, 1) := by decide +kernel
theorem dX3_fail_2_2 : decode cX3_fail_2 2 = .ok (.putfield 65, 3) := by decide +kernel
theorem dX3_fail_2_5 : decode cX3_fail_2 5 = .ok (.aload_n 0, 1) := by decide +kernel
theorem dX3_fail_2_6 : decode cX3_fail_2 6 = .ok (.getfield 12, 3) := by decide +kernel
theorem dX3_fail_2_9 : decode cX3_fail_2 9 = .ok (.areturn, 1) := by decide +kernel
theorem dX3_place_0 : decode cX3_place 0 = .ok (.aload_n 0, 1) := by decide +kernel
theorem dX3_place_1 : decode cX3_place 1 = .ok (.invokevirtual 84, 3) := by decide +kernel
theorem dX3_place_4 : decode cX3_place 4 = .ok (.istore_n 1, 1) := by decide +kernel
theorem dX3_place_5 : decode cX3_place 5 = .ok (.iload_n 1, 1) := by decide +kernel
theorem dX3_place_6 : decode cX3_place 6 = .ok (.bipush 91, 2) := by decide +kernel
theorem dX3_place_8 : decode cX3_place 8 = .ok (.if_icmp .eq 23, 3) := by decide +kernel
theorem dX3_place_11 : decode cX3_place 11 = .ok (.iload_n 1, 1) := by decide +kernel
theorem dX3_place_12 : decode cX3_place 12 = .ok (.bipush 46, 2) := by decide +kernel
theorem dX3_place_14 : decode cX3_place 14 = .ok (.if_icmp .eq 17, 3) := by decide +kernel
theorem dX3_place_17 : decode cX3_place 17 = .ok (.iload_n 1, 1) := by decide +kernel
theorem dX3_place_18 : decode cX3_place 18 = .ok (.bipush 92, 2) := by decide +kernel
theorem dX3_place_20 : decode cX3_place 20 = .ok (.if_icmp .eq 11, 3) := by decide +kernel
theorem dX3_place_23 : decode cX3_place 23 = .ok (.iload_n 1, 1) := by decide +kernel
theorem dX3_place_24 : decode cX3_place 24 = .ok (.iconst 0, 1) := by decide +kernel
theorem dX3_place_25 : decode cX3_place 25 = .ok (.invokestatic 137, 3) := by decide +kernel
theorem dX3_place_28 : decode cX3_place 28 = .ok (.ifCond .eq 7, 3) := by decide +kernel
theorem dX3_place_31 : decode cX3_place 31 = .ok (.iconst 1, 1) := by decide +kernel
theorem dX3_place_32 : decode cX3_place 32 = .ok (.goto 4, 3) := by decide +kernel
theorem dX3_place_35 : decode cX3_place 35 = .ok (.iconst 0, 1) := by decide +kernel
theorem dX3_place_36 : decode cX3_place 36 = .ok (.istore_n 2, 1) := by decide +kernel
theorem dX3_place_37 : decode cX3_place 37 = .ok (.iload_n 2, 1) := by decide +kernel
theorem dX3_place_38 : decode cX3_place 38 = .ok (.ifCond .eq 13, 3) := by decide +kernel
theorem dX3_place_41 : decode cX3_place 41 = .ok (.aload_n 0, 1) := by decide +kernel
theorem dX3_place_42 : decode cX3_place 42 = .ok (.getfield 48, 3) := by decide +kernel
theorem dX3_place_45 : decode cX3_place 45 = .ok (.sipush 400, 3) := by decide +kernel
theorem dX3_place_48 : decode cX3_place 48 = .ok (.if_icmp .ne 8, 3) := by decide +kernel
theorem dX3_place_51 : decode cX3_place 51 = .ok (.aload_n 0, 1) := by decide +kernel
theorem dX3_place_52 : decode cX3_place 52 = .ok (.invokevirtual 88, 3) := by decide +kernel
theorem dX3_place_55 : decode cX3_place 55 = .ok (.athrow, 1) := by decide +kernel
theorem dX3_place_56 : decode cX3_place 56 = .ok (.aload_n 0, 1) := by decide +kernel
theorem dX3_place_57 : decode cX3_place 57 = .ok (.getfield 48, 3) := by decide +kernel
theorem dX3_place_60 : decode cX3_place 60 = .ok (.istore_n 3, 1) := by decide +kernel
theorem dX3_place_61 : decode cX3_place 61 = .ok (.aload_n 0, 1) := by decide +kernel
theorem dX3_place_62 : decode cX3_place 62 = .ok (.dup, 1) := by decide +kernel
theorem dX3_place_63 : decode cX3_place 63 = .ok (.getfield 48, 3) := by decide +kernel
theorem dX3_place_66 : decode cX3_place 66 = .ok (.iconst 1, 1) := by decide +kernel
theorem dX3_place_67 : decode cX3_place 67 = .ok (.iadd, 1) := by decide +kernel
theorem dX3_place_68 : decode cX3_place 68 = .ok (.putfield 48, 3) := by decide +kernel
theorem dX3_place_71 : decode cX3_place 71 = .ok (.aload_n 0, 1) := by decide +kernel
theorem dX3_place_72 : decode cX3_place 72 = .ok (.getfield 18, 3) := by decide +kernel
theorem dX3_place_75 : decode cX3_place 75 = .ok (.iload_n 3, 1) := by decide +kernel
theorem dX3_place_76 : decode cX3_place 76 = .ok (.lconst 0, 1) := by decide +kernel
theorem dX3_place_77 : decode cX3_place 77 = .ok (.lastore, 1) := by decide +kernel
theorem dX3_place_78 : decode cX3_place 78 = .ok (.aload_n 0, 1) := by decide +kernel
theorem dX3_place_79 : decode cX3_place 79 = .ok (.getfield 22, 3) := by decide +kernel
theorem dX3_place_82 : decode cX3_place 82 = .ok (.iload_n 3, 1) := by decide +kernel
theorem dX3_place_83 : decode cX3_place 83 = .ok (.lconst 0, 1) := by decide +kernel
theorem dX3_place_84 : decode cX3_place 84 = .ok (.lastore, 1) := by decide +kernel
theorem dX3_place_85 : decode cX3_place 85 = .ok (.aload_n 0, 1) := by decide +kernel
theorem dX3_place_86 : decode cX3_place 86 = .ok (.getfield 25, 3) := by decide +kernel
theorem dX3_place_89 : decode cX3_place 89 = .ok (.iload_n 3, 1) := by decide +kernel
theorem dX3_place_90 : decode cX3_place 90 = .ok (.aload_n 0, 1) := by decide +kernel
theorem dX3_place_91 : decode cX3_place 91 = .ok (.getfield 52, 3) := by decide +kernel
theorem dX3_place_94 : decode cX3_place 94 = .ok (.iastore, 1) := by decide +kernel
theorem dX3_place_95 : decode cX3_place 95 = .ok (.aload_n 0, 1) := by decide +kernel
theorem dX3_place_96 : decode cX3_place 96 = .ok (.getfield 32, 3) := by decide +kernel
theorem dX3_place_99 : decode cX3_place 99 = .ok (.iload_n 3, 1) := by decide +kernel
theorem dX3_place_100 : decode cX3_place 100 = .ok (.iconst 0, 1) := by decide +kernel
theorem dX3_place_101 : decode cX3_place 101 = .ok (.bastore, 1) := by decide +kernel
theorem dX3_place_102 : decode cX3_place 102 = .ok (.iconst 0, 1) := by decide +kernel
theorem dX3_place_103 : decode cX3_place 103 = .ok (.istore 4, 2) := by decide +kernel
theorem dX3_place_105 : decode cX3_place 105 = .ok (.iload 4, 2) := by decide +kernel
theorem dX3_place_107 : decode cX3_place 107 = .ok (.bipush 7, 2) := by decide +kernel
theorem dX3_place_109 : decode cX3_place 109 = .ok (.if_icmp .ge 22, 3) := by decide +kernel
theorem dX3_place_112 : decode cX3_place 112 = .ok (.aload_n 0, 1) := by decide +kernel
theorem dX3_place_113 : decode cX3_place 113 = .ok (.getfield 29, 3) := by decide +kernel
theorem dX3_place_116 : decode cX3_place 116 = .ok (.bipush 7, 2) := by decide +kernel
theorem dX3_place_118 : decode cX3_place 118 = .ok (.iload_n 3, 1) := by decide +kernel
theorem dX3_place_119 : decode cX3_place 119 = .ok (.imul, 1) := by decide +kernel
theorem dX3_place_120 : decode cX3_place 120 = .ok (.iload 4, 2) := by decide +kernel
theorem dX3_place_122 : decode cX3_place 122 = .ok (.iadd, 1) := by decide +kernel
theorem dX3_place_123 : decode cX3_place 123 = .ok (.lconst 0, 1) := by decide +kernel
theorem dX3_place_124 : decode cX3_place 124 = .ok (.lastore, 1) := by decide +kernel
theorem dX3_place_125 : decode cX3_place 125 = .ok (.iinc 4 1, 3) := by decide +kernel
theorem dX3_place_128 : decode cX3_place 128 = .ok (.goto (-23), 3) := by decide +kernel
theorem dX3_place_131 : decode cX3_place 131 = .ok (.aload_n 0, 1) := by decide +kernel
theorem dX3_place_132 : decode cX3_place 132 = .ok (.iconst 0, 1) := by decide +kernel
theorem dX3_place_133 : decode cX3_place 133 = .ok (.invokevirtual 98, 3) := by decide +kernel
theorem dX3_place_136 : decode cX3_place 136 = .ok (.istore 4, 2) := by decide +kernel
theorem dX3_place_138 : decode cX3_place 138 = .ok (.aload_n 0, 1) := by decide +kernel
theorem dX3_place_139 : decode cX3_place 139 = .ok (.getfield 42, 3) := by decide +kernel
theorem dX3_place_142 : decode cX3_place 142 = .ok (.bipush 7, 2) := by decide +kernel
theorem dX3_place_144 : decode cX3_place 144 = .ok (.iload 4, 2) := by decide +kernel
theorem dX3_place_146 : decode cX3_place 146 = .ok (.imul, 1) := by decide +kernel
theorem dX3_place_147 : decode cX3_place 147 = .ok (.iload_n 3, 1) := by decide +kernel
theorem dX3_place_148 : decode cX3_place 148 = .ok (.bipush 64, 2) := by decide +kernel
theorem dX3_place_150 : decode cX3_place 150 = .ok (.idiv, 1) := by decide +kernel
theorem dX3_place_151 : decode cX3_place 151 = .ok (.iadd, 1) := by decide +kernel
theorem dX3_place_152 : decode cX3_place 152 = .ok (.dup2, 1) := by decide +kernel
theorem dX3_place_153 : decode cX3_place 153 = .ok (.laload, 1) := by decide +kernel
theorem dX3_place_154 : decode cX3_place 154 = .ok (.lconst 1, 1) := by decide +kernel
theorem dX3_place_155 : decode cX3_place 155 = .ok (.iload_n 3, 1) := by decide +kernel
theorem dX3_place_156 : decode cX3_place 156 = .ok (.bipush 64, 2) := by decide +kernel
theorem dX3_place_158 : decode cX3_place 158 = .ok (.irem, 1) := by decide +kernel
theorem dX3_place_159 : decode cX3_place 159 = .ok (.lshl, 1) := by decide +kernel
theorem dX3_place_160 : decode cX3_place 160 = .ok (.lor, 1) := by decide +kernel
theorem dX3_place_161 : decode cX3_place 161 = .ok (.lastore, 1) := by decide +kernel
theorem dX3_place_162 : decode cX3_place 162 = .ok (.aload_n 0, 1) := by decide +kernel
theorem dX3_place_163 : decode cX3_place 163 = .ok (.getfield 45, 3) := by decide +kernel
theorem dX3_place_166 : decode cX3_place 166 = .ok (.bipush 7, 2) := by decide +kernel
theorem dX3_place_168 : decode cX3_place 168 = .ok (.iload 4, 2) := by decide +kernel
theorem dX3_place_170 : decode cX3_place 170 = .ok (.imul, 1) := by decide +kernel
theorem dX3_place_171 : decode cX3_place 171 = .ok (.iload_n 3, 1) := by decide +kernel
theorem dX3_place_172 : decode cX3_place 172 = .ok (.bipush 64, 2) := by decide +kernel
theorem dX3_place_174 : decode cX3_place 174 = .ok (.idiv, 1) := by decide +kernel
theorem dX3_place_175 : decode cX3_place 175 = .ok (.iadd, 1) := by decide +kernel
theorem dX3_place_176 : decode cX3_place 176 = .ok (.dup2, 1) := by decide +kernel
theorem dX3_place_177 : decode cX3_place 177 = .ok (.laload, 1) := by decide +kernel
theorem dX3_place_178 : decode cX3_place 178 = .ok (.lconst 1, 1) := by decide +kernel
theorem dX3_place_179 : decode cX3_place 179 = .ok (.iload_n 3, 1) := by decide +kernel
theorem dX3_place_180 : decode cX3_place 180 = .ok (.bipush 64, 2) := by decide +kernel
theorem dX3_place_182 : decode cX3_place 182 = .ok (.irem, 1) := by decide +kernel
theorem dX3_place_183 : decode cX3_place 183 = .ok (.lshl, 1) := by decide +kernel
theorem dX3_place_184 : decode cX3_place 184 = .ok (.lor, 1) := by decide +kernel
theorem dX3_place_185 : decode cX3_place 185 = .ok (.lastore, 1) := by decide +kernel
theorem dX3_place_186 : decode cX3_place 186 = .ok (.iload_n 3, 1) := by decide +kernel
theorem dX3_place_187 : decode cX3_place 187 = .ok (.ireturn, 1) := by decide +kernel
theorem dX3_plain_0 : decode cX3_plain 0 = .ok (.iload_n 0, 1) := by decide +kernel
theorem dX3_plain_1 : decode cX3_plain 1 = .ok (.bipush 32, 2) := by decide +kernel
theorem dX3_plain_3 : decode cX3_plain 3 = .ok (.if_icmp .lt 9, 3) := by decide +kernel
theorem dX3_plain_6 : decode cX3_plain 6 = .ok (.iload_n 0, 1) := by decide +kernel
theorem dX3_plain_7 : decode cX3_plain 7 = .ok (.bipush 126, 2) := by decide +kernel
theorem dX3_plain_9 : decode cX3_plain 9 = .ok (.if_icmp .le 5, 3) := by decide +kernel
theorem dX3_plain_12 : decode cX3_plain 12 = .ok (.iconst 0, 1) := by decide +kernel
theorem dX3_plain_13 : decode cX3_plain 13 = .ok (.ireturn, 1) := by decide +kernel
theorem dX3_plain_14 : decode cX3_plain 14 = .ok (.iload_n 1, 1) := by decide +kernel
theorem dX3_plain_15 : decode cX3_plain 15 = .ok (.ifCond .eq 8, 3) := by decide +kernel
theorem dX3_plain_18 : decode cX3_plain 18 = .ok (.ldc 141, 2) := by decide +kernel
theorem dX3_plain_20 : decode cX3_plain 20 = .ok (.goto 5, 3) := by decide +kernel
theorem dX3_plain_23 : decode cX3_plain 23 = .ok (.ldc 143, 2) := by decide +kernel
theorem dX3_plain_25 : decode cX3_plain 25 = .ok (.iload_n 0, 1) := by decide +kernel
theorem dX3_plain_26 : decode cX3_plain 26 = .ok (.invokevirtual 145, 3) := by decide +kernel
theorem dX3_plain_29 : decode cX3_plain 29 = .ok (.ifCond .ge 7, 3) := by decide +kernel
theorem dX3_plain_32 : decode cX3_plain 32 = .ok (.iconst 1, 1) := by decide +kernel
theorem dX3_plain_33 : decode cX3_plain 33 = .ok (.goto 4, 3) := by decide +kernel
theorem dX3_plain_36 : decode cX3_plain 36 = .ok (.iconst 0, 1) := by decide +kernel
theorem dX3_plain_37 : decode cX3_plain 37 = .ok (.ireturn, 1) := by decide +kernel
theorem dX3_choice_0 : decode cX3_choice 0 = .ok (.aload_n 0, 1) := by decide +kernel
theorem dX3_choice_1 : decode cX3_choice 1 = .ok (.dup, 1) := by decide +kernel
theorem dX3_choice_2 : decode cX3_choice 2 = .ok (.getfield 55, 3) := by decide +kernel
theorem dX3_choice_5 : decode cX3_choice 5 = .ok (.iconst 1, 1) := by decide +kernel
theorem dX3_choice_6 : decode cX3_choice 6 = .ok (.iadd, 1) := by decide +kernel
theorem dX3_choice_7 : decode cX3_choice 7 = .ok (.putfield 55, 3) := by decide +kernel
theorem dX3_choice_10 : decode cX3_choice 10 = .ok (.aload_n 0, 1) := by decide +kernel
theorem dX3_choice_11 : decode cX3_choice 11 = .ok (.invokevirtual 84, 3) := by decide +kernel
theorem dX3_choice_14 : decode cX3_choice 14 = .ok (.bipush 94, 2) := by decide +kernel
theorem dX3_choice_16 : decode cX3_choice 16 = .ok (.if_icmp .ne 7, 3) := by decide +kernel
theorem dX3_choice_19 : decode cX3_choice 19 = .ok (.iconst 1, 1) := by decide +kernel
theorem dX3_choice_20 : decode cX3_choice 20 = .ok (.goto 4, 3) := by decide +kernel
theorem dX3_choice_23 : decode cX3_choice 23 = .ok (.iconst 0, 1) := by decide +kernel
theorem dX3_choice_24 : decode cX3_choice 24 = .ok (.istore_n 2, 1) := by decide +kernel
theorem dX3_choice_25 : decode cX3_choice 25 = .ok (.iload_n 2, 1) := by decide +kernel
theorem dX3_choice_26 : decode cX3_choice 26 = .ok (.ifCond .eq 13, 3) := by decide +kernel
theorem dX3_choice_29 : decode cX3_choice 29 = .ok (.aload_n 0, 1) := by decide +kernel
theorem dX3_choice_30 : decode cX3_choice 30 = .ok (.dup, 1) := by decide +kernel
theorem dX3_choice_31 : decode cX3_choice 31 = .ok (.getfield 55, 3) := by decide +kernel
theorem dX3_choice_34 : decode cX3_choice 34 = .ok (.iconst 1, 1) := by decide +kernel
theorem dX3_choice_35 : decode cX3_choice 35 = .ok (.iadd, 1) := by decide +kernel
theorem dX3_choice_36 : decode cX3_choice 36 = .ok (.putfield 55, 3) := by decide +kernel
theorem dX3_choice_39 : decode cX3_choice 39 = .ok (.aload_n 0, 1) := by decide +kernel
theorem dX3_choice_40 : decode cX3_choice 40 = .ok (.iconst 1, 1) := by decide +kernel
theorem dX3_choice_41 : decode cX3_choice 41 = .ok (.invokevirtual 130, 3) := by decide +kernel
theorem dX3_choice_44 : decode cX3_choice 44 = .ok (.istore_n 3, 1) := by decide +kernel
theorem dX3_choice_45 : decode cX3_choice 45 = .ok (.iload_n 3, 1) := by decide +kernel
theorem dX3_choice_46 : decode cX3_choice 46 = .ok (.istore 4, 2) := by decide +kernel
theorem dX3_choice_48 : decode cX3_choice 48 = .ok (.aload_n 0, 1) := by decide +kernel
theorem dX3_choice_49 : decode cX3_choice 49 = .ok (.invokevirtual 84, 3) := by decide +kernel
theorem dX3_choice_52 : decode cX3_choice 52 = .ok (.bipush 45, 2) := by decide +kernel
theorem dX3_choice_54 : decode cX3_choice 54 = .ok (.if_icmp .ne 39, 3) := by decide +kernel
theorem dX3_choice_57 : decode cX3_choice 57 = .ok (.aload_n 0, 1) := by decide +kernel
theorem dX3_choice_58 : decode cX3_choice 58 = .ok (.dup, 1) := by decide +kernel
theorem dX3_choice_59 : decode cX3_choice 59 = .ok (.getfield 55, 3) := by decide +kernel
theorem dX3_choice_62 : decode cX3_choice 62 = .ok (.iconst 1, 1) := by decide +kernel
theorem dX3_choice_63 : decode cX3_choice 63 = .ok (.iadd, 1) := by decide +kernel
theorem dX3_choice_64 : decode cX3_choice 64 = .ok (.putfield 55, 3) := by decide +kernel
theorem dX3_choice_67 : decode cX3_choice 67 = .ok (.aload_n 0, 1) := by decide +kernel
theorem dX3_choice_68 : decode cX3_choice 68 = .ok (.getfield 55, 3) := by decide +kernel
theorem dX3_choice_71 : decode cX3_choice 71 = .ok (.istore 5, 2) := by decide +kernel
theorem dX3_choice_73 : decode cX3_choice 73 = .ok (.aload_n 0, 1) := by decide +kernel
theorem dX3_choice_74 : decode cX3_choice 74 = .ok (.iconst 1, 1) := by decide +kernel
theorem dX3_choice_75 : decode cX3_choice 75 = .ok (.invokevirtual 130, 3) := by decide +kernel
theorem dX3_choice_78 : decode cX3_choice 78 = .ok (.istore 4, 2) := by decide +kernel
theorem dX3_choice_80 : decode cX3_choice 80 = .ok (.iload 4, 2) := by decide +kernel
theorem dX3_choice_82 : decode cX3_choice 82 = .ok (.iload_n 3, 1) := by decide +kernel
theorem dX3_choice_83 : decode cX3_choice 83 = .ok (.if_icmp .ge 10, 3) := by decide +kernel
theorem dX3_choice_86 : decode cX3_choice 86 = .ok (.aload_n 0, 1) := by decide +kernel
theorem dX3_choice_87 : decode cX3_choice 87 = .ok (.iload 5, 2) := by decide +kernel
theorem dX3_choice_89 : decode cX3_choice 89 = .ok (.invokevirtual 68, 3) := by decide +kernel
theorem dX3_choice_92 : decode cX3_choice 92 = .ok (.athrow, 1) := by decide +kernel
theorem dX3_choice_93 : decode cX3_choice 93 = .ok (.aload_n 0, 1) := by decide +kernel
theorem dX3_choice_94 : decode cX3_choice 94 = .ok (.iload_n 1, 1) := by decide +kernel
theorem dX3_choice_95 : decode cX3_choice 95 = .ok (.iload_n 3, 1) := by decide +kernel
theorem dX3_choice_96 : decode cX3_choice 96 = .ok (.iload 4, 2) := by decide +kernel
theorem dX3_choice_98 : decode cX3_choice 98 = .ok (.invokevirtual 133, 3) := by decide +kernel
theorem dX3_choice_101 : decode cX3_choice 101 = .ok (.aload_n 0, 1) := by decide +kernel
theorem dX3_choice_102 : decode cX3_choice 102 = .ok (.invokevirtual 84, 3) := by decide +kernel
theorem dX3_choice_105 : decode cX3_choice 105 = .ok (.bipush 93, 2) := by decide +kernel
theorem dX3_choice_107 : decode cX3_choice 107 = .ok (.if_icmp .ne (-68), 3) := by decide +kernel
theorem dX3_choice_110 : decode cX3_choice 110 = .ok (.aload_n 0, 1) := by decide +kernel
theorem dX3_choice_111 : decode cX3_choice 111 = .ok (.dup, 1) := by decide +kernel
theorem dX3_choice_112 : decode cX3_choice 112 = .ok (.getfield 55, 3) := by decide +kernel
theorem dX3_choice_115 : decode cX3_choice 115 = .ok (.iconst 1, 1) := by decide +kernel
theorem dX3_choice_116 : decode cX3_choice 116 = .ok (.iadd, 1) := by decide +kernel
theorem dX3_choice_117 : decode cX3_choice 117 = .ok (.putfield 55, 3) := by decide +kernel
theorem dX3_choice_120 : decode cX3_choice 120 = .ok (.iload_n 2, 1) := by decide +kernel
theorem dX3_choice_121 : decode cX3_choice 121 = .ok (.ifCond .ne 4, 3) := by decide +kernel
theorem dX3_choice_124 : decode cX3_choice 124 = .ok (.return_, 1) := by decide +kernel
theorem dX3_choice_125 : decode cX3_choice 125 = .ok (.aload_n 0, 1) := by decide +kernel
theorem dX3_choice_126 : decode cX3_choice 126 = .ok (.getfield 18, 3) := by decide +kernel
theorem dX3_choice_129 : decode cX3_choice 129 = .ok (.iload_n 1, 1) := by decide +kernel
theorem dX3_choice_130 : decode cX3_choice 130 = .ok (.aload_n 0, 1) := by decide +kernel
theorem dX3_choice_131 : decode cX3_choice 131 = .ok (.getfield 18, 3) := by decide +kernel
theorem dX3_choice_134 : decode cX3_choice 134 = .ok (.iload_n 1, 1) := by decide +kernel
theorem dX3_choice_135 : decode cX3_choice 135 = .ok (.laload, 1) := by decide +kernel
theorem dX3_choice_136 : decode cX3_choice 136 = .ok (.ldc2_w 128, 3) := by decide +kernel
theorem dX3_choice_139 : decode cX3_choice 139 = .ok (.lxor, 1) := by decide +kernel
theorem dX3_choice_140 : decode cX3_choice 140 = .ok (.lastore, 1) := by decide +kernel
theorem dX3_choice_141 : decode cX3_choice 141 = .ok (.aload_n 0, 1) := by decide +kernel
theorem dX3_choice_142 : decode cX3_choice 142 = .ok (.getfield 22, 3) := by decide +kernel
theorem dX3_choice_145 : decode cX3_choice 145 = .ok (.iload_n 1, 1) := by decide +kernel
theorem dX3_choice_146 : decode cX3_choice 146 = .ok (.aload_n 0, 1) := by decide +kernel
theorem dX3_choice_147 : decode cX3_choice 147 = .ok (.getfield 22, 3) := by decide +kernel
theorem dX3_choice_150 : decode cX3_choice 150 = .ok (.iload_n 1, 1) := by decide +kernel
theorem dX3_choice_151 : decode cX3_choice 151 = .ok (.laload, 1) := by decide +kernel
theorem dX3_choice_152 : decode cX3_choice 152 = .ok (.ldc2_w 128, 3) := by decide +kernel
theorem dX3_choice_155 : decode cX3_choice 155 = .ok (.lxor, 1) := by decide +kernel
theorem dX3_choice_156 : decode cX3_choice 156 = .ok (.lastore, 1) := by decide +kernel
theorem dX3_choice_157 : decode cX3_choice 157 = .ok (.return_, 1) := by decide +kernel
theorem dX3_character_0 : decode cX3_character 0 = .ok (.aload_n 0, 1) := by decide +kernel
theorem dX3_character_1 : decode cX3_character 1 = .ok (.invokevirtual 84, 3) := by decide +kernel
theorem dX3_character_4 : decode cX3_character 4 = .ok (.istore_n 2, 1) := by decide +kernel
theorem dX3_character_5 : decode cX3_character 5 = .ok (.iload_n 2, 1) := by decide +kernel
theorem dX3_character_6 : decode cX3_character 6 = .ok (.bipush 92, 2) := by decide +kernel
theorem dX3_character_8 : decode cX3_character 8 = .ok (.if_icmp .eq 28, 3) := by decide +kernel
theorem dX3_character_11 : decode cX3_character 11 = .ok (.iload_n 2, 1) := by decide +kernel
theorem dX3_character_12 : decode cX3_character 12 = .ok (.iload_n 1, 1) := by decide +kernel
theorem dX3_character_13 : decode cX3_character 13 = .ok (.invokestatic 137, 3) := by decide +kernel
theorem dX3_character_16 : decode cX3_character 16 = .ok (.ifCond .ne 8, 3) := by decide +kernel
theorem dX3_character_19 : decode cX3_character 19 = .ok (.aload_n 0, 1) := by decide +kernel
theorem dX3_character_20 : decode cX3_character 20 = .ok (.invokevirtual 88, 3) := by decide +kernel
theorem dX3_character_23 : decode cX3_character 23 = .ok (.athrow, 1) := by decide +kernel
theorem dX3_character_24 : decode cX3_character 24 = .ok (.aload_n 0, 1) := by decide +kernel
theorem dX3_character_25 : decode cX3_character 25 = .ok (.dup, 1) := by decide +kernel
theorem dX3_character_26 : decode cX3_character 26 = .ok (.getfield 55, 3) := by decide +kernel
theorem dX3_character_29 : decode cX3_character 29 = .ok (.iconst 1, 1) := by decide +kernel
theorem dX3_character_30 : decode cX3_character 30 = .ok (.iadd, 1) := by decide +kernel
theorem dX3_character_31 : decode cX3_character 31 = .ok (.putfield 55, 3) := by decide +kernel
theorem dX3_character_34 : decode cX3_character 34 = .ok (.iload_n 2, 1) := by decide +kernel
theorem dX3_character_35 : decode cX3_character 35 = .ok (.ireturn, 1) := by decide +kernel
theorem dX3_character_36 : decode cX3_character 36 = .ok (.aload_n 0, 1) := by decide +kernel
theorem dX3_character_37 : decode cX3_character 37 = .ok (.dup, 1) := by decide +kernel
theorem dX3_character_38 : decode cX3_character 38 = .ok (.getfield 55, 3) := by decide +kernel
theorem dX3_character_41 : decode cX3_character 41 = .ok (.iconst 1, 1) := by decide +kernel
theorem dX3_character_42 : decode cX3_character 42 = .ok (.iadd, 1) := by decide +kernel
theorem dX3_character_43 : decode cX3_character 43 = .ok (.putfield 55, 3) := by decide +kernel
theorem dX3_character_46 : decode cX3_character 46 = .ok (.aload_n 0, 1) := by decide +kernel
theorem dX3_character_47 : decode cX3_character 47 = .ok (.invokevirtual 84, 3) := by decide +kernel
theorem dX3_character_50 : decode cX3_character 50 = .ok (.istore_n 3, 1) := by decide +kernel
theorem dX3_character_51 : decode cX3_character 51 = .ok (.iload_n 3, 1) := by decide +kernel
theorem dX3_character_52 : decode cX3_character 52 = .ok (.bipush 110, 2) := by decide +kernel
theorem dX3_character_54 : decode cX3_character 54 = .ok (.if_icmp .ne 8, 3) := by decide +kernel
theorem dX3_character_57 : decode cX3_character 57 = .ok (.bipush 10, 2) := by decide +kernel
theorem dX3_character_59 : decode cX3_character 59 = .ok (.goto 43, 3) := by decide +kernel
theorem dX3_character_62 : decode cX3_character 62 = .ok (.iload_n 3, 1) := by decide +kernel
theorem dX3_character_63 : decode cX3_character 63 = .ok (.bipush 116, 2) := by decide +kernel
theorem dX3_character_65 : decode cX3_character 65 = .ok (.if_icmp .ne 8, 3) := by decide +kernel
theorem dX3_character_68 : decode cX3_character 68 = .ok (.bipush 9, 2) := by decide +kernel
theorem dX3_character_70 : decode cX3_character 70 = .ok (.goto 32, 3) := by decide +kernel
theorem dX3_character_73 : decode cX3_character 73 = .ok (.iload_n 3, 1) := by decide +kernel
theorem dX3_character_74 : decode cX3_character 74 = .ok (.bipush 114, 2) := by decide +kernel
theorem dX3_character_76 : decode cX3_character 76 = .ok (.if_icmp .ne 8, 3) := by decide +kernel
theorem dX3_character_79 : decode cX3_character 79 = .ok (.bipush 13, 2) := by decide +kernel
theorem dX3_character_81 : decode cX3_character 81 = .ok (.goto 21, 3) := by decide +kernel
theorem dX3_character_84 : decode cX3_character 84 = .ok (.iload_n 3, 1) := by decide +kernel
theorem dX3_character_85 : decode cX3_character 85 = .ok (.ifCond .le 16, 3) := by decide +kernel
theorem dX3_character_88 : decode cX3_character 88 = .ok (.ldc 151, 2) := by decide +kernel
theorem dX3_character_90 : decode cX3_character 90 = .ok (.iload_n 3, 1) := by decide +kernel
theorem dX3_character_91 : decode cX3_character 91 = .ok (.invokevirtual 145, 3) := by decide +kernel
theorem dX3_character_94 : decode cX3_character 94 = .ok (.ifCond .lt 7, 3) := by decide +kernel
theorem dX3_character_97 : decode cX3_character 97 = .ok (.iload_n 3, 1) := by decide +kernel
theorem dX3_character_98 : decode cX3_character 98 = .ok (.goto 4, 3) := by decide +kernel
theorem dX3_character_101 : decode cX3_character 101 = .ok (.iconst (-1), 1) := by decide +kernel
theorem dX3_character_102 : decode cX3_character 102 = .ok (.istore 4, 2) := by decide +kernel
theorem dX3_character_104 : decode cX3_character 104 = .ok (.iload 4, 2) := by decide +kernel
theorem dX3_character_106 : decode cX3_character 106 = .ok (.ifCond .ge 8, 3) := by decide +kernel
theorem dX3_character_109 : decode cX3_character 109 = .ok (.aload_n 0, 1) := by decide +kernel
theorem dX3_character_110 : decode cX3_character 110 = .ok (.invokevirtual 88, 3) := by decide +kernel
theorem dX3_character_113 : decode cX3_character 113 = .ok (.athrow, 1) := by decide +kernel
theorem dX3_character_114 : decode cX3_character 114 = .ok (.aload_n 0, 1) := by decide +kernel
theorem dX3_character_115 : decode cX3_character 115 = .ok (.dup, 1) := by decide +kernel
theorem dX3_character_116 : decode cX3_character 116 = .ok (.getfield 55, 3) := by decide +kernel
theorem dX3_character_119 : decode cX3_character 119 = .ok (.iconst 1, 1) := by decide +kernel
theorem dX3_character_120 : decode cX3_character 120 = .ok (.iadd, 1) := by decide +kernel
theorem dX3_character_121 : decode cX3_character 121 = .ok (.putfield 55, 3) := by decide +kernel
theorem dX3_character_124 : decode cX3_character 124 = .ok (.iload 4, 2) := by decide +kernel
theorem dX3_character_126 : decode cX3_character 126 = .ok (.ireturn, 1) := by decide +kernel
theorem dX3_set_0 : decode cX3_set 0 = .ok (.iload_n 2, 1) := by decide +kernel
theorem dX3_set_1 : decode cX3_set 1 = .ok (.istore 4, 2) := by decide +kernel
theorem dX3_set_3 : decode cX3_set 3 = .ok (.iload 4, 2) := by decide +kernel
theorem dX3_set_5 : decode cX3_set 5 = .ok (.iload_n 3, 1) := by decide +kernel
theorem dX3_set_6 : decode cX3_set 6 = .ok (.if_icmp .gt 48, 3) := by decide +kernel
theorem dX3_set_9 : decode cX3_set 9 = .ok (.iload 4, 2) := by decide +kernel
theorem dX3_set_11 : decode cX3_set 11 = .ok (.bipush 64, 2) := by decide +kernel
theorem dX3_set_13 : decode cX3_set 13 = .ok (.if_icmp .ge 19, 3) := by decide +kernel
theorem dX3_set_16 : decode cX3_set 16 = .ok (.aload_n 0, 1) := by decide +kernel
theorem dX3_set_17 : decode cX3_set 17 = .ok (.getfield 18, 3) := by decide +kernel
theorem dX3_set_20 : decode cX3_set 20 = .ok (.iload_n 1, 1) := by decide +kernel
theorem dX3_set_21 : decode cX3_set 21 = .ok (.dup2, 1) := by decide +kernel
theorem dX3_set_22 : decode cX3_set 22 = .ok (.laload, 1) := by decide +kernel
theorem dX3_set_23 : decode cX3_set 23 = .ok (.lconst 1, 1) := by decide +kernel
theorem dX3_set_24 : decode cX3_set 24 = .ok (.iload 4, 2) := by decide +kernel
theorem dX3_set_26 : decode cX3_set 26 = .ok (.lshl, 1) := by decide +kernel
theorem dX3_set_27 : decode cX3_set 27 = .ok (.lor, 1) := by decide +kernel
theorem dX3_set_28 : decode cX3_set 28 = .ok (.lastore, 1) := by decide +kernel
theorem dX3_set_29 : decode cX3_set 29 = .ok (.goto 19, 3) := by decide +kernel
theorem dX3_set_32 : decode cX3_set 32 = .ok (.aload_n 0, 1) := by decide +kernel
theorem dX3_set_33 : decode cX3_set 33 = .ok (.getfield 22, 3) := by decide +kernel
theorem dX3_set_36 : decode cX3_set 36 = .ok (.iload_n 1, 1) := by decide +kernel
theorem dX3_set_37 : decode cX3_set 37 = .ok (.dup2, 1) := by decide +kernel
theorem dX3_set_38 : decode cX3_set 38 = .ok (.laload, 1) := by decide +kernel
theorem dX3_set_39 : decode cX3_set 39 = .ok (.lconst 1, 1) := by decide +kernel
theorem dX3_set_40 : decode cX3_set 40 = .ok (.iload 4, 2) := by decide +kernel
theorem dX3_set_42 : decode cX3_set 42 = .ok (.bipush 64, 2) := by decide +kernel
theorem dX3_set_44 : decode cX3_set 44 = .ok (.isub, 1) := by decide +kernel
theorem dX3_set_45 : decode cX3_set 45 = .ok (.lshl, 1) := by decide +kernel
theorem dX3_set_46 : decode cX3_set 46 = .ok (.lor, 1) := by decide +kernel
theorem dX3_set_47 : decode cX3_set 47 = .ok (.lastore, 1) := by decide +kernel
theorem dX3_set_48 : decode cX3_set 48 = .ok (.iinc 4 1, 3) := by decide +kernel
theorem dX3_set_51 : decode cX3_set 51 = .ok (.goto (-48), 3) := by decide +kernel
theorem dX3_set_54 : decode cX3_set 54 = .ok (.return_, 1) := by decide +kernel
theorem dX3_link_0 : decode cX3_link 0 = .ok (.iconst 0, 1) := by decide +kernel
theorem dX3_link_1 : decode cX3_link 1 = .ok (.istore_n 3, 1) := by decide +kernel
theorem dX3_link_2 : decode cX3_link 2 = .ok (.iload_n 3, 1) := by decide +kernel
theorem dX3_link_3 : decode cX3_link 3 = .ok (.aload_n 0, 1) := by decide +kernel
theorem dX3_link_4 : decode cX3_link 4 = .ok (.getfield 48, 3) := by decide +kernel
theorem dX3_link_7 : decode cX3_link 7 = .ok (.if_icmp .ge 70, 3) := by decide +kernel
theorem dX3_link_10 : decode cX3_link 10 = .ok (.aload_n 0, 1) := by decide +kernel
theorem dX3_link_11 : decode cX3_link 11 = .ok (.getfield 45, 3) := by decide +kernel
theorem dX3_link_14 : decode cX3_link 14 = .ok (.bipush 7, 2) := by decide +kernel
theorem dX3_link_16 : decode cX3_link 16 = .ok (.iload_n 1, 1) := by decide +kernel
theorem dX3_link_17 : decode cX3_link 17 = .ok (.imul, 1) := by decide +kernel
theorem dX3_link_18 : decode cX3_link 18 = .ok (.iload_n 3, 1) := by decide +kernel
theorem dX3_link_19 : decode cX3_link 19 = .ok (.invokestatic 91, 3) := by decide +kernel
theorem dX3_link_22 : decode cX3_link 22 = .ok (.ifCond .ne 6, 3) := by decide +kernel
theorem dX3_link_25 : decode cX3_link 25 = .ok (.goto 46, 3) := by decide +kernel
theorem dX3_link_28 : decode cX3_link 28 = .ok (.iconst 0, 1) := by decide +kernel
theorem dX3_link_29 : decode cX3_link 29 = .ok (.istore 4, 2) := by decide +kernel
theorem dX3_link_31 : decode cX3_link 31 = .ok (.iload 4, 2) := by decide +kernel
theorem dX3_link_33 : decode cX3_link 33 = .ok (.bipush 7, 2) := by decide +kernel
theorem dX3_link_35 : decode cX3_link 35 = .ok (.if_icmp .ge 36, 3) := by decide +kernel
theorem dX3_link_38 : decode cX3_link 38 = .ok (.aload_n 0, 1) := by decide +kernel
theorem dX3_link_39 : decode cX3_link 39 = .ok (.getfield 29, 3) := by decide +kernel
theorem dX3_link_42 : decode cX3_link 42 = .ok (.bipush 7, 2) := by decide +kernel
theorem dX3_link_44 : decode cX3_link 44 = .ok (.iload_n 3, 1) := by decide +kernel
theorem dX3_link_45 : decode cX3_link 45 = .ok (.imul, 1) := by decide +kernel
theorem dX3_link_46 : decode cX3_link 46 = .ok (.iload 4, 2) := by decide +kernel
theorem dX3_link_48 : decode cX3_link 48 = .ok (.iadd, 1) := by decide +kernel
theorem dX3_link_49 : decode cX3_link 49 = .ok (.dup2, 1) := by decide +kernel
theorem dX3_link_50 : decode cX3_link 50 = .ok (.laload, 1) := by decide +kernel
theorem dX3_link_51 : decode cX3_link 51 = .ok (.aload_n 0, 1) := by decide +kernel
theorem dX3_link_52 : decode cX3_link 52 = .ok (.getfield 42, 3) := by decide +kernel
theorem dX3_link_55 : decode cX3_link 55 = .ok (.bipush 7, 2) := by decide +kernel
theorem dX3_link_57 : decode cX3_link 57 = .ok (.iload_n 2, 1) := by decide +kernel
theorem dX3_link_58 : decode cX3_link 58 = .ok (.imul, 1) := by decide +kernel
theorem dX3_link_59 : decode cX3_link 59 = .ok (.iload 4, 2) := by decide +kernel
theorem dX3_link_61 : decode cX3_link 61 = .ok (.iadd, 1) := by decide +kernel
theorem dX3_link_62 : decode cX3_link 62 = .ok (.laload, 1) := by decide +kernel
theorem dX3_link_63 : decode cX3_link 63 = .ok (.lor, 1) := by decide +kernel
theorem dX3_link_64 : decode cX3_link 64 = .ok (.lastore, 1) := by decide +kernel
theorem dX3_link_65 : decode cX3_link 65 = .ok (.iinc 4 1, 3) := by decide +kernel
theorem dX3_link_68 : decode cX3_link 68 = .ok (.goto (-37), 3) := by decide +kernel
theorem dX3_link_71 : decode cX3_link 71 = .ok (.iinc 3 1, 3) := by decide +kernel
theorem dX3_link_74 : decode cX3_link 74 = .ok (.goto (-72), 3) := by decide +kernel
theorem dX3_link_77 : decode cX3_link 77 = .ok (.return_, 1) := by decide +kernel
theorem dX3_has_0 : decode cX3_has 0 = .ok (.aload_n 0, 1) := by decide +kernel
theorem dX3_has_1 : decode cX3_has 1 = .ok (.iload_n 1, 1) := by decide +kernel
theorem dX3_has_2 : decode cX3_has 2 = .ok (.iload_n 2, 1) := by decide +kernel
theorem dX3_has_3 : decode cX3_has 3 = .ok (.bipush 64, 2) := by decide +kernel
theorem dX3_has_5 : decode cX3_has 5 = .ok (.idiv, 1) := by decide +kernel
theorem dX3_has_6 : decode cX3_has 6 = .ok (.iadd, 1) := by decide +kernel
theorem dX3_has_7 : decode cX3_has 7 = .ok (.laload, 1) := by decide +kernel
theorem dX3_has_8 : decode cX3_has 8 = .ok (.iload_n 2, 1) := by decide +kernel
theorem dX3_has_9 : decode cX3_has 9 = .ok (.bipush 64, 2) := by decide +kernel
theorem dX3_has_11 : decode cX3_has 11 = .ok (.irem, 1) := by decide +kernel
theorem dX3_has_12 : decode cX3_has 12 = .ok (.lshr, 1) := by decide +kernel
theorem dX3_has_13 : decode cX3_has 13 = .ok (.lconst 1, 1) := by decide +kernel
theorem dX3_has_14 : decode cX3_has 14 = .ok (.land, 1) := by decide +kernel
theorem dX3_has_15 : decode cX3_has 15 = .ok (.lconst 1, 1) := by decide +kernel
theorem dX3_has_16 : decode cX3_has 16 = .ok (.lcmp, 1) := by decide +kernel
theorem dX3_has_17 : decode cX3_has 17 = .ok (.ifCond .ne 7, 3) := by decide +kernel
theorem dX3_has_20 : decode cX3_has 20 = .ok (.iconst 1, 1) := by decide +kernel
theorem dX3_has_21 : decode cX3_has 21 = .ok (.goto 4, 3) := by decide +kernel
theorem dX3_has_24 : decode cX3_has 24 = .ok (.iconst 0, 1) := by decide +kernel
theorem dX3_has_25 : decode cX3_has 25 = .ok (.ireturn, 1) := by decide +kernel
theorem dX3_behind_0 : decode cX3_behind 0 = .ok (.aload_n 0, 1) := by decide +kernel
theorem dX3_behind_1 : decode cX3_behind 1 = .ok (.iload_n 1, 1) := by decide +kernel
theorem dX3_behind_2 : decode cX3_behind 2 = .ok (.iload_n 2, 1) := by decide +kernel
theorem dX3_behind_3 : decode cX3_behind 3 = .ok (.invokevirtual 113, 3) := by decide +kernel
theorem dX3_behind_6 : decode cX3_behind 6 = .ok (.iconst 0, 1) := by decide +kernel
theorem dX3_behind_7 : decode cX3_behind 7 = .ok (.istore_n 3, 1) := by decide +kernel
theorem dX3_behind_8 : decode cX3_behind 8 = .ok (.iload_n 3, 1) := by decide +kernel
theorem dX3_behind_9 : decode cX3_behind 9 = .ok (.bipush 7, 2) := by decide +kernel
theorem dX3_behind_11 : decode cX3_behind 11 = .ok (.if_icmp .ge 99, 3) := by decide +kernel
theorem dX3_behind_14 : decode cX3_behind 14 = .ok (.aload_n 0, 1) := by decide +kernel
theorem dX3_behind_15 : decode cX3_behind 15 = .ok (.getfield 39, 3) := by decide +kernel
theorem dX3_behind_18 : decode cX3_behind 18 = .ok (.iload_n 1, 1) := by decide +kernel
theorem dX3_behind_19 : decode cX3_behind 19 = .ok (.baload, 1) := by decide +kernel
theorem dX3_behind_20 : decode cX3_behind 20 = .ok (.ifCond .eq 28, 3) := by decide +kernel
theorem dX3_behind_23 : decode cX3_behind 23 = .ok (.aload_n 0, 1) := by decide +kernel
theorem dX3_behind_24 : decode cX3_behind 24 = .ok (.getfield 42, 3) := by decide +kernel
theorem dX3_behind_27 : decode cX3_behind 27 = .ok (.bipush 7, 2) := by decide +kernel
theorem dX3_behind_29 : decode cX3_behind 29 = .ok (.iload_n 1, 1) := by decide +kernel
theorem dX3_behind_30 : decode cX3_behind 30 = .ok (.imul, 1) := by decide +kernel
theorem dX3_behind_31 : decode cX3_behind 31 = .ok (.iload_n 3, 1) := by decide +kernel
theorem dX3_behind_32 : decode cX3_behind 32 = .ok (.iadd, 1) := by decide +kernel
theorem dX3_behind_33 : decode cX3_behind 33 = .ok (.dup2, 1) := by decide +kernel
theorem dX3_behind_34 : decode cX3_behind 34 = .ok (.laload, 1) := by decide +kernel
theorem dX3_behind_35 : decode cX3_behind 35 = .ok (.aload_n 0, 1) := by decide +kernel
theorem dX3_behind_36 : decode cX3_behind 36 = .ok (.getfield 42, 3) := by decide +kernel
theorem dX3_behind_39 : decode cX3_behind 39 = .ok (.bipush 7, 2) := by decide +kernel
theorem dX3_behind_41 : decode cX3_behind 41 = .ok (.iload_n 2, 1) := by decide +kernel
theorem dX3_behind_42 : decode cX3_behind 42 = .ok (.imul, 1) := by decide +kernel
theorem dX3_behind_43 : decode cX3_behind 43 = .ok (.iload_n 3, 1) := by decide +kernel
theorem dX3_behind_44 : decode cX3_behind 44 = .ok (.iadd, 1) := by decide +kernel
theorem dX3_behind_45 : decode cX3_behind 45 = .ok (.laload, 1) := by decide +kernel
theorem dX3_behind_46 : decode cX3_behind 46 = .ok (.lor, 1) := by decide +kernel
theorem dX3_behind_47 : decode cX3_behind 47 = .ok (.lastore, 1) := by decide +kernel
theorem dX3_behind_48 : decode cX3_behind 48 = .ok (.aload_n 0, 1) := by decide +kernel
theorem dX3_behind_49 : decode cX3_behind 49 = .ok (.getfield 39, 3) := by decide +kernel
theorem dX3_behind_52 : decode cX3_behind 52 = .ok (.iload_n 2, 1) := by decide +kernel
theorem dX3_behind_53 : decode cX3_behind 53 = .ok (.baload, 1) := by decide +kernel
theorem dX3_behind_54 : decode cX3_behind 54 = .ok (.ifCond .eq 28, 3) := by decide +kernel
theorem dX3_behind_57 : decode cX3_behind 57 = .ok (.aload_n 0, 1) := by decide +kernel
theorem dX3_behind_58 : decode cX3_behind 58 = .ok (.getfield 45, 3) := by decide +kernel
theorem dX3_behind_61 : decode cX3_behind 61 = .ok (.bipush 7, 2) := by decide +kernel
theorem dX3_behind_63 : decode cX3_behind 63 = .ok (.iload_n 2, 1) := by decide +kernel
theorem dX3_behind_64 : decode cX3_behind 64 = .ok (.imul, 1) := by decide +kernel
theorem dX3_behind_65 : decode cX3_behind 65 = .ok (.iload_n 3, 1) := by decide +kernel
theorem dX3_behind_66 : decode cX3_behind 66 = .ok (.iadd, 1) := by decide +kernel
theorem dX3_behind_67 : decode cX3_behind 67 = .ok (.dup2, 1) := by decide +kernel
theorem dX3_behind_68 : decode cX3_behind 68 = .ok (.laload, 1) := by decide +kernel
theorem dX3_behind_69 : decode cX3_behind 69 = .ok (.aload_n 0, 1) := by decide +kernel
theorem dX3_behind_70 : decode cX3_behind 70 = .ok (.getfield 45, 3) := by decide +kernel
theorem dX3_behind_73 : decode cX3_behind 73 = .ok (.bipush 7, 2) := by decide +kernel
theorem dX3_behind_75 : decode cX3_behind 75 = .ok (.iload_n 1, 1) := by decide +kernel
theorem dX3_behind_76 : decode cX3_behind 76 = .ok (.imul, 1) := by decide +kernel
theorem dX3_behind_77 : decode cX3_behind 77 = .ok (.iload_n 3, 1) := by decide +kernel
theorem dX3_behind_78 : decode cX3_behind 78 = .ok (.iadd, 1) := by decide +kernel
theorem dX3_behind_79 : decode cX3_behind 79 = .ok (.laload, 1) := by decide +kernel
theorem dX3_behind_80 : decode cX3_behind 80 = .ok (.lor, 1) := by decide +kernel
theorem dX3_behind_81 : decode cX3_behind 81 = .ok (.lastore, 1) := by decide +kernel
theorem dX3_behind_82 : decode cX3_behind 82 = .ok (.aload_n 0, 1) := by decide +kernel
theorem dX3_behind_83 : decode cX3_behind 83 = .ok (.getfield 45, 3) := by decide +kernel
theorem dX3_behind_86 : decode cX3_behind 86 = .ok (.bipush 7, 2) := by decide +kernel
theorem dX3_behind_88 : decode cX3_behind 88 = .ok (.iload_n 1, 1) := by decide +kernel
theorem dX3_behind_89 : decode cX3_behind 89 = .ok (.imul, 1) := by decide +kernel
theorem dX3_behind_90 : decode cX3_behind 90 = .ok (.iload_n 3, 1) := by decide +kernel
theorem dX3_behind_91 : decode cX3_behind 91 = .ok (.iadd, 1) := by decide +kernel
theorem dX3_behind_92 : decode cX3_behind 92 = .ok (.aload_n 0, 1) := by decide +kernel
theorem dX3_behind_93 : decode cX3_behind 93 = .ok (.getfield 45, 3) := by decide +kernel
theorem dX3_behind_96 : decode cX3_behind 96 = .ok (.bipush 7, 2) := by decide +kernel
theorem dX3_behind_98 : decode cX3_behind 98 = .ok (.iload_n 2, 1) := by decide +kernel
theorem dX3_behind_99 : decode cX3_behind 99 = .ok (.imul, 1) := by decide +kernel
theorem dX3_behind_100 : decode cX3_behind 100 = .ok (.iload_n 3, 1) := by decide +kernel
theorem dX3_behind_101 : decode cX3_behind 101 = .ok (.iadd, 1) := by decide +kernel
theorem dX3_behind_102 : decode cX3_behind 102 = .ok (.laload, 1) := by decide +kernel
theorem dX3_behind_103 : decode cX3_behind 103 = .ok (.lastore, 1) := by decide +kernel
theorem dX3_behind_104 : decode cX3_behind 104 = .ok (.iinc 3 1, 3) := by decide +kernel
theorem dX3_behind_107 : decode cX3_behind 107 = .ok (.goto (-99), 3) := by decide +kernel
theorem dX3_behind_110 : decode cX3_behind 110 = .ok (.aload_n 0, 1) := by decide +kernel
theorem dX3_behind_111 : decode cX3_behind 111 = .ok (.getfield 39, 3) := by decide +kernel
theorem dX3_behind_114 : decode cX3_behind 114 = .ok (.iload_n 1, 1) := by decide +kernel
theorem dX3_behind_115 : decode cX3_behind 115 = .ok (.dup2, 1) := by decide +kernel
theorem dX3_behind_116 : decode cX3_behind 116 = .ok (.baload, 1) := by decide +kernel
theorem dX3_behind_117 : decode cX3_behind 117 = .ok (.aload_n 0, 1) := by decide +kernel
theorem dX3_behind_118 : decode cX3_behind 118 = .ok (.getfield 39, 3) := by decide +kernel
theorem dX3_behind_121 : decode cX3_behind 121 = .ok (.iload_n 2, 1) := by decide +kernel
theorem dX3_behind_122 : decode cX3_behind 122 = .ok (.baload, 1) := by decide +kernel
theorem dX3_behind_123 : decode cX3_behind 123 = .ok (.iand, 1) := by decide +kernel
theorem dX3_behind_124 : decode cX3_behind 124 = .ok (.bastore, 1) := by decide +kernel
theorem dX3_behind_125 : decode cX3_behind 125 = .ok (.return_, 1) := by decide +kernel
theorem dX3_isEmpty_0 : decode cX3_isEmpty 0 = .ok (.aload_n 0, 1) := by decide +kernel
theorem dX3_isEmpty_1 : decode cX3_isEmpty 1 = .ok (.getfield 39, 3) := by decide +kernel
theorem dX3_isEmpty_4 : decode cX3_isEmpty 4 = .ok (.iconst 0, 1) := by decide +kernel
theorem dX3_isEmpty_5 : decode cX3_isEmpty 5 = .ok (.baload, 1) := by decide +kernel
theorem dX3_isEmpty_6 : decode cX3_isEmpty 6 = .ok (.ireturn, 1) := by decide +kernel
theorem dX3_takes_0 : decode cX3_takes 0 = .ok (.iload_n 2, 1) := by decide +kernel
theorem dX3_takes_1 : decode cX3_takes 1 = .ok (.bipush 64, 2) := by decide +kernel
theorem dX3_takes_3 : decode cX3_takes 3 = .ok (.if_icmp .ge 12, 3) := by decide +kernel
theorem dX3_takes_6 : decode cX3_takes 6 = .ok (.aload_n 0, 1) := by decide +kernel
theorem dX3_takes_7 : decode cX3_takes 7 = .ok (.getfield 18, 3) := by decide +kernel
theorem dX3_takes_10 : decode cX3_takes 10 = .ok (.iload_n 1, 1) := by decide +kernel
theorem dX3_takes_11 : decode cX3_takes 11 = .ok (.laload, 1) := by decide +kernel
theorem dX3_takes_12 : decode cX3_takes 12 = .ok (.goto 9, 3) := by decide +kernel
theorem dX3_takes_15 : decode cX3_takes 15 = .ok (.aload_n 0, 1) := by decide +kernel
theorem dX3_takes_16 : decode cX3_takes 16 = .ok (.getfield 22, 3) := by decide +kernel
theorem dX3_takes_19 : decode cX3_takes 19 = .ok (.iload_n 1, 1) := by decide +kernel
theorem dX3_takes_20 : decode cX3_takes 20 = .ok (.laload, 1) := by decide +kernel
theorem dX3_takes_21 : decode cX3_takes 21 = .ok (.iload_n 2, 1) := by decide +kernel
theorem dX3_takes_22 : decode cX3_takes 22 = .ok (.bipush 64, 2) := by decide +kernel
theorem dX3_takes_24 : decode cX3_takes 24 = .ok (.irem, 1) := by decide +kernel
theorem dX3_takes_25 : decode cX3_takes 25 = .ok (.lshr, 1) := by decide +kernel
theorem dX3_takes_26 : decode cX3_takes 26 = .ok (.lconst 1, 1) := by decide +kernel
theorem dX3_takes_27 : decode cX3_takes 27 = .ok (.land, 1) := by decide +kernel
theorem dX3_takes_28 : decode cX3_takes 28 = .ok (.lconst 1, 1) := by decide +kernel
theorem dX3_takes_29 : decode cX3_takes 29 = .ok (.lcmp, 1) := by decide +kernel
theorem dX3_takes_30 : decode cX3_takes 30 = .ok (.ifCond .ne 7, 3) := by decide +kernel
theorem dX3_takes_33 : decode cX3_takes 33 = .ok (.iconst 1, 1) := by decide +kernel
theorem dX3_takes_34 : decode cX3_takes 34 = .ok (.goto 4, 3) := by decide +kernel
theorem dX3_takes_37 : decode cX3_takes 37 = .ok (.iconst 0, 1) := by decide +kernel
theorem dX3_takes_38 : decode cX3_takes 38 = .ok (.ireturn, 1) := by decide +kernel
theorem dX3_wrong_0 : decode cX3_wrong 0 = .ok (.aload_n 0, 1) := by decide +kernel
theorem dX3_wrong_1 : decode cX3_wrong 1 = .ok (.getfield 65, 3) := by decide +kernel
theorem dX3_wrong_4 : decode cX3_wrong 4 = .ok (.ireturn, 1) := by decide +kernel
