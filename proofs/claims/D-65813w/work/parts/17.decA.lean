set_option maxRecDepth 100000
theorem dX5_init_0 : decode cX5_init 0 = .ok (.aload_n 0, 1) := by decide +kernel
theorem dX5_init_1 : decode cX5_init 1 = .ok (.invokespecial 3, 3) := by decide +kernel
theorem dX5_init_4 : decode cX5_init 4 = .ok (.aload_n 0, 1) := by decide +kernel
theorem dX5_init_5 : decode cX5_init 5 = .ok (.sipush 2814, 3) := by decide +kernel
theorem dX5_init_8 : decode cX5_init 8 = .ok (.newarray .long, 2) := by decide +kernel
theorem dX5_init_10 : decode cX5_init 10 = .ok (.putfield 9, 3) := by decide +kernel
theorem dX5_init_13 : decode cX5_init 13 = .ok (.aload_n 0, 1) := by decide +kernel
theorem dX5_init_14 : decode cX5_init 14 = .ok (.ldc 15, 2) := by decide +kernel
theorem dX5_init_16 : decode cX5_init 16 = .ok (.newarray .int, 2) := by decide +kernel
theorem dX5_init_18 : decode cX5_init 18 = .ok (.putfield 16, 3) := by decide +kernel
theorem dX5_init_21 : decode cX5_init 21 = .ok (.aload_n 0, 1) := by decide +kernel
theorem dX5_init_22 : decode cX5_init 22 = .ok (.sipush 401, 3) := by decide +kernel
theorem dX5_init_25 : decode cX5_init 25 = .ok (.newarray .int, 2) := by decide +kernel
theorem dX5_init_27 : decode cX5_init 27 = .ok (.putfield 20, 3) := by decide +kernel
theorem dX5_init_30 : decode cX5_init 30 = .ok (.aload_n 0, 1) := by decide +kernel
theorem dX5_init_31 : decode cX5_init 31 = .ok (.sipush 512, 3) := by decide +kernel
theorem dX5_init_34 : decode cX5_init 34 = .ok (.newarray .int, 2) := by decide +kernel
theorem dX5_init_36 : decode cX5_init 36 = .ok (.putfield 23, 3) := by decide +kernel
theorem dX5_init_39 : decode cX5_init 39 = .ok (.aload_n 0, 1) := by decide +kernel
theorem dX5_init_40 : decode cX5_init 40 = .ok (.sipush 401, 3) := by decide +kernel
theorem dX5_init_43 : decode cX5_init 43 = .ok (.newarray .int, 2) := by decide +kernel
theorem dX5_init_45 : decode cX5_init 45 = .ok (.putfield 26, 3) := by decide +kernel
theorem dX5_init_48 : decode cX5_init 48 = .ok (.aload_n 0, 1) := by decide +kernel
theorem dX5_init_49 : decode cX5_init 49 = .ok (.sipush 401, 3) := by decide +kernel
theorem dX5_init_52 : decode cX5_init 52 = .ok (.newarray .int, 2) := by decide +kernel
theorem dX5_init_54 : decode cX5_init 54 = .ok (.putfield 29, 3) := by decide +kernel
theorem dX5_init_57 : decode cX5_init 57 = .ok (.aload_n 0, 1) := by decide +kernel
theorem dX5_init_58 : decode cX5_init 58 = .ok (.sipush 401, 3) := by decide +kernel
theorem dX5_init_61 : decode cX5_init 61 = .ok (.newarray .int, 2) := by decide +kernel
theorem dX5_init_63 : decode cX5_init 63 = .ok (.putfield 32, 3) := by decide +kernel
theorem dX5_init_66 : decode cX5_init 66 = .ok (.aload_n 0, 1) := by decide +kernel
theorem dX5_init_67 : decode cX5_init 67 = .ok (.sipush 401, 3) := by decide +kernel
theorem dX5_init_70 : decode cX5_init 70 = .ok (.newarray .boolean, 2) := by decide +kernel
theorem dX5_init_72 : decode cX5_init 72 = .ok (.putfield 35, 3) := by decide +kernel
theorem dX5_init_75 : decode cX5_init 75 = .ok (.aload_n 0, 1) := by decide +kernel
theorem dX5_init_76 : decode cX5_init 76 = .ok (.sipush 25600, 3) := by decide +kernel
theorem dX5_init_79 : decode cX5_init 79 = .ok (.newarray .int, 2) := by decide +kernel
theorem dX5_init_81 : decode cX5_init 81 = .ok (.putfield 39, 3) := by decide +kernel
theorem dX5_init_84 : decode cX5_init 84 = .ok (.aload_n 0, 1) := by decide +kernel
theorem dX5_init_85 : decode cX5_init 85 = .ok (.sipush 200, 3) := by decide +kernel
theorem dX5_init_88 : decode cX5_init 88 = .ok (.newarray .int, 2) := by decide +kernel
theorem dX5_init_90 : decode cX5_init 90 = .ok (.putfield 42, 3) := by decide +kernel
theorem dX5_init_93 : decode cX5_init 93 = .ok (.aload_n 0, 1) := by decide +kernel
theorem dX5_init_94 : decode cX5_init 94 = .ok (.aload_n 1, 1) := by decide +kernel
theorem dX5_init_95 : decode cX5_init 95 = .ok (.putfield 45, 3) := by decide +kernel
theorem dX5_init_98 : decode cX5_init 98 = .ok (.return_, 1) := by decide +kernel
theorem dX5_make_0 : decode cX5_make 0 = .ok (.iconst 0, 1) := by decide +kernel
theorem dX5_make_1 : decode cX5_make 1 = .ok (.istore_n 1, 1) := by decide +kernel
theorem dX5_make_2 : decode cX5_make 2 = .ok (.iload_n 1, 1) := by decide +kernel
theorem dX5_make_3 : decode cX5_make 3 = .ok (.aload_n 0, 1) := by decide +kernel
theorem dX5_make_4 : decode cX5_make 4 = .ok (.getfield 23, 3) := by decide +kernel
theorem dX5_make_7 : decode cX5_make 7 = .ok (.arraylength, 1) := by decide +kernel
theorem dX5_make_8 : decode cX5_make 8 = .ok (.if_icmp .ge 16, 3) := by decide +kernel
theorem dX5_make_11 : decode cX5_make 11 = .ok (.aload_n 0, 1) := by decide +kernel
theorem dX5_make_12 : decode cX5_make 12 = .ok (.getfield 23, 3) := by decide +kernel
theorem dX5_make_15 : decode cX5_make 15 = .ok (.iload_n 1, 1) := by decide +kernel
theorem dX5_make_16 : decode cX5_make 16 = .ok (.iconst (-1), 1) := by decide +kernel
theorem dX5_make_17 : decode cX5_make 17 = .ok (.iastore, 1) := by decide +kernel
theorem dX5_make_18 : decode cX5_make 18 = .ok (.iinc 1 1, 3) := by decide +kernel
theorem dX5_make_21 : decode cX5_make 21 = .ok (.goto (-19), 3) := by decide +kernel
theorem dX5_make_24 : decode cX5_make 24 = .ok (.aload_n 0, 1) := by decide +kernel
theorem dX5_make_25 : decode cX5_make 25 = .ok (.iconst 1, 1) := by decide +kernel
theorem dX5_make_26 : decode cX5_make 26 = .ok (.putfield 56, 3) := by decide +kernel
theorem dX5_make_29 : decode cX5_make 29 = .ok (.aload_n 0, 1) := by decide +kernel
theorem dX5_make_30 : decode cX5_make 30 = .ok (.getfield 20, 3) := by decide +kernel
theorem dX5_make_33 : decode cX5_make 33 = .ok (.iconst 0, 1) := by decide +kernel
theorem dX5_make_34 : decode cX5_make 34 = .ok (.iconst (-1), 1) := by decide +kernel
theorem dX5_make_35 : decode cX5_make 35 = .ok (.iastore, 1) := by decide +kernel
theorem dX5_make_36 : decode cX5_make 36 = .ok (.iconst 0, 1) := by decide +kernel
theorem dX5_make_37 : decode cX5_make 37 = .ok (.istore_n 1, 1) := by decide +kernel
theorem dX5_make_38 : decode cX5_make 38 = .ok (.iload_n 1, 1) := by decide +kernel
theorem dX5_make_39 : decode cX5_make 39 = .ok (.aload_n 0, 1) := by decide +kernel
theorem dX5_make_40 : decode cX5_make 40 = .ok (.getfield 56, 3) := by decide +kernel
theorem dX5_make_43 : decode cX5_make 43 = .ok (.if_icmp .ge 50, 3) := by decide +kernel
theorem dX5_make_46 : decode cX5_make 46 = .ok (.iconst 0, 1) := by decide +kernel
theorem dX5_make_47 : decode cX5_make 47 = .ok (.istore_n 2, 1) := by decide +kernel
theorem dX5_make_48 : decode cX5_make 48 = .ok (.iload_n 2, 1) := by decide +kernel
theorem dX5_make_49 : decode cX5_make 49 = .ok (.sipush 128, 3) := by decide +kernel
theorem dX5_make_52 : decode cX5_make 52 = .ok (.if_icmp .ge 35, 3) := by decide +kernel
theorem dX5_make_55 : decode cX5_make 55 = .ok (.aload_n 0, 1) := by decide +kernel
theorem dX5_make_56 : decode cX5_make 56 = .ok (.iload_n 1, 1) := by decide +kernel
theorem dX5_make_57 : decode cX5_make 57 = .ok (.iload_n 2, 1) := by decide +kernel
theorem dX5_make_58 : decode cX5_make 58 = .ok (.invokevirtual 59, 3) := by decide +kernel
theorem dX5_make_61 : decode cX5_make 61 = .ok (.istore_n 3, 1) := by decide +kernel
theorem dX5_make_62 : decode cX5_make 62 = .ok (.iload_n 3, 1) := by decide +kernel
theorem dX5_make_63 : decode cX5_make 63 = .ok (.ifCond .ge 5, 3) := by decide +kernel
theorem dX5_make_66 : decode cX5_make 66 = .ok (.iconst 0, 1) := by decide +kernel
theorem dX5_make_67 : decode cX5_make 67 = .ok (.ireturn, 1) := by decide +kernel
theorem dX5_make_68 : decode cX5_make 68 = .ok (.aload_n 0, 1) := by decide +kernel
theorem dX5_make_69 : decode cX5_make 69 = .ok (.getfield 16, 3) := by decide +kernel
theorem dX5_make_72 : decode cX5_make 72 = .ok (.sipush 128, 3) := by decide +kernel
theorem dX5_make_75 : decode cX5_make 75 = .ok (.iload_n 1, 1) := by decide +kernel
theorem dX5_make_76 : decode cX5_make 76 = .ok (.imul, 1) := by decide +kernel
theorem dX5_make_77 : decode cX5_make 77 = .ok (.iload_n 2, 1) := by decide +kernel
theorem dX5_make_78 : decode cX5_make 78 = .ok (.iadd, 1) := by decide +kernel
theorem dX5_make_79 : decode cX5_make 79 = .ok (.iload_n 3, 1) := by decide +kernel
theorem dX5_make_80 : decode cX5_make 80 = .ok (.iastore, 1) := by decide +kernel
theorem dX5_make_81 : decode cX5_make 81 = .ok (.iinc 2 1, 3) := by decide +kernel
theorem dX5_make_84 : decode cX5_make 84 = .ok (.goto (-36), 3) := by decide +kernel
theorem dX5_make_87 : decode cX5_make 87 = .ok (.iinc 1 1, 3) := by decide +kernel
theorem dX5_make_90 : decode cX5_make 90 = .ok (.goto (-52), 3) := by decide +kernel
theorem dX5_make_93 : decode cX5_make 93 = .ok (.aload_n 0, 1) := by decide +kernel
theorem dX5_make_94 : decode cX5_make 94 = .ok (.invokevirtual 63, 3) := by decide +kernel
theorem dX5_make_97 : decode cX5_make 97 = .ok (.ireturn, 1) := by decide +kernel
theorem dX5_step_0 : decode cX5_step 0 = .ok (.bipush 7, 2) := by decide +kernel
theorem dX5_step_2 : decode cX5_step 2 = .ok (.aload_n 0, 1) := by decide +kernel
theorem dX5_step_3 : decode cX5_step 3 = .ok (.getfield 56, 3) := by decide +kernel
theorem dX5_step_6 : decode cX5_step 6 = .ok (.imul, 1) := by decide +kernel
theorem dX5_step_7 : decode cX5_step 7 = .ok (.istore_n 3, 1) := by decide +kernel
theorem dX5_step_8 : decode cX5_step 8 = .ok (.iconst 0, 1) := by decide +kernel
theorem dX5_step_9 : decode cX5_step 9 = .ok (.istore 4, 2) := by decide +kernel
theorem dX5_step_11 : decode cX5_step 11 = .ok (.iload 4, 2) := by decide +kernel
theorem dX5_step_13 : decode cX5_step 13 = .ok (.bipush 7, 2) := by decide +kernel
theorem dX5_step_15 : decode cX5_step 15 = .ok (.if_icmp .ge 19, 3) := by decide +kernel
theorem dX5_step_18 : decode cX5_step 18 = .ok (.aload_n 0, 1) := by decide +kernel
theorem dX5_step_19 : decode cX5_step 19 = .ok (.getfield 9, 3) := by decide +kernel
theorem dX5_step_22 : decode cX5_step 22 = .ok (.iload_n 3, 1) := by decide +kernel
theorem dX5_step_23 : decode cX5_step 23 = .ok (.iload 4, 2) := by decide +kernel
theorem dX5_step_25 : decode cX5_step 25 = .ok (.iadd, 1) := by decide +kernel
theorem dX5_step_26 : decode cX5_step 26 = .ok (.lconst 0, 1) := by decide +kernel
theorem dX5_step_27 : decode cX5_step 27 = .ok (.lastore, 1) := by decide +kernel
theorem dX5_step_28 : decode cX5_step 28 = .ok (.iinc 4 1, 3) := by decide +kernel
theorem dX5_step_31 : decode cX5_step 31 = .ok (.goto (-20), 3) := by decide +kernel
theorem dX5_step_34 : decode cX5_step 34 = .ok (.iload_n 1, 1) := by decide +kernel
theorem dX5_step_35 : decode cX5_step 35 = .ok (.ifCond .ne 20, 3) := by decide +kernel
theorem dX5_step_38 : decode cX5_step 38 = .ok (.aload_n 0, 1) := by decide +kernel
theorem dX5_step_39 : decode cX5_step 39 = .ok (.aload_n 0, 1) := by decide +kernel
theorem dX5_step_40 : decode cX5_step 40 = .ok (.getfield 45, 3) := by decide +kernel
theorem dX5_step_43 : decode cX5_step 43 = .ok (.getfield 67, 3) := by decide +kernel
theorem dX5_step_46 : decode cX5_step 46 = .ok (.iconst 0, 1) := by decide +kernel
theorem dX5_step_47 : decode cX5_step 47 = .ok (.iload_n 2, 1) := by decide +kernel
theorem dX5_step_48 : decode cX5_step 48 = .ok (.iload_n 3, 1) := by decide +kernel
theorem dX5_step_49 : decode cX5_step 49 = .ok (.invokevirtual 71, 3) := by decide +kernel
theorem dX5_step_52 : decode cX5_step 52 = .ok (.goto 89, 3) := by decide +kernel
theorem dX5_step_55 : decode cX5_step 55 = .ok (.iconst 0, 1) := by decide +kernel
theorem dX5_step_56 : decode cX5_step 56 = .ok (.istore 4, 2) := by decide +kernel
theorem dX5_step_58 : decode cX5_step 58 = .ok (.iload 4, 2) := by decide +kernel
theorem dX5_step_60 : decode cX5_step 60 = .ok (.bipush 7, 2) := by decide +kernel
theorem dX5_step_62 : decode cX5_step 62 = .ok (.if_icmp .ge 79, 3) := by decide +kernel
theorem dX5_step_65 : decode cX5_step 65 = .ok (.aload_n 0, 1) := by decide +kernel
theorem dX5_step_66 : decode cX5_step 66 = .ok (.getfield 9, 3) := by decide +kernel
theorem dX5_step_69 : decode cX5_step 69 = .ok (.bipush 7, 2) := by decide +kernel
theorem dX5_step_71 : decode cX5_step 71 = .ok (.iload_n 1, 1) := by decide +kernel
theorem dX5_step_72 : decode cX5_step 72 = .ok (.imul, 1) := by decide +kernel
theorem dX5_step_73 : decode cX5_step 73 = .ok (.iload 4, 2) := by decide +kernel
theorem dX5_step_75 : decode cX5_step 75 = .ok (.iadd, 1) := by decide +kernel
theorem dX5_step_76 : decode cX5_step 76 = .ok (.laload, 1) := by decide +kernel
theorem dX5_step_77 : decode cX5_step 77 = .ok (.lstore 5, 2) := by decide +kernel
theorem dX5_step_79 : decode cX5_step 79 = .ok (.lload 5, 2) := by decide +kernel
theorem dX5_step_81 : decode cX5_step 81 = .ok (.lconst 0, 1) := by decide +kernel
theorem dX5_step_82 : decode cX5_step 82 = .ok (.lcmp, 1) := by decide +kernel
theorem dX5_step_83 : decode cX5_step 83 = .ok (.ifCond .eq 52, 3) := by decide +kernel
theorem dX5_step_86 : decode cX5_step 86 = .ok (.bipush 64, 2) := by decide +kernel
theorem dX5_step_88 : decode cX5_step 88 = .ok (.iload 4, 2) := by decide +kernel
theorem dX5_step_90 : decode cX5_step 90 = .ok (.imul, 1) := by decide +kernel
theorem dX5_step_91 : decode cX5_step 91 = .ok (.bipush 63, 2) := by decide +kernel
theorem dX5_step_93 : decode cX5_step 93 = .ok (.iadd, 1) := by decide +kernel
theorem dX5_step_94 : decode cX5_step 94 = .ok (.lload 5, 2) := by decide +kernel
theorem dX5_step_96 : decode cX5_step 96 = .ok (.invokestatic 75, 3) := by decide +kernel
theorem dX5_step_99 : decode cX5_step 99 = .ok (.isub, 1) := by decide +kernel
theorem dX5_step_100 : decode cX5_step 100 = .ok (.istore 7, 2) := by decide +kernel
theorem dX5_step_102 : decode cX5_step 102 = .ok (.lload 5, 2) := by decide +kernel
theorem dX5_step_104 : decode cX5_step 104 = .ok (.lconst 1, 1) := by decide +kernel
theorem dX5_step_105 : decode cX5_step 105 = .ok (.iload 7, 2) := by decide +kernel
theorem dX5_step_107 : decode cX5_step 107 = .ok (.bipush 64, 2) := by decide +kernel
theorem dX5_step_109 : decode cX5_step 109 = .ok (.irem, 1) := by decide +kernel
theorem dX5_step_110 : decode cX5_step 110 = .ok (.lshl, 1) := by decide +kernel
theorem dX5_step_111 : decode cX5_step 111 = .ok (.lxor, 1) := by decide +kernel
theorem dX5_step_112 : decode cX5_step 112 = .ok (.lstore 5, 2) := by decide +kernel
theorem dX5_step_114 : decode cX5_step 114 = .ok (.aload_n 0, 1) := by decide +kernel
theorem dX5_step_115 : decode cX5_step 115 = .ok (.aload_n 0, 1) := by decide +kernel
theorem dX5_step_116 : decode cX5_step 116 = .ok (.getfield 45, 3) := by decide +kernel
theorem dX5_step_119 : decode cX5_step 119 = .ok (.getfield 81, 3) := by decide +kernel
theorem dX5_step_122 : decode cX5_step 122 = .ok (.bipush 7, 2) := by decide +kernel
theorem dX5_step_124 : decode cX5_step 124 = .ok (.iload 7, 2) := by decide +kernel
theorem dX5_step_126 : decode cX5_step 126 = .ok (.imul, 1) := by decide +kernel
theorem dX5_step_127 : decode cX5_step 127 = .ok (.iload_n 2, 1) := by decide +kernel
theorem dX5_step_128 : decode cX5_step 128 = .ok (.iload_n 3, 1) := by decide +kernel
theorem dX5_step_129 : decode cX5_step 129 = .ok (.invokevirtual 71, 3) := by decide +kernel
theorem dX5_step_132 : decode cX5_step 132 = .ok (.goto (-53), 3) := by decide +kernel
theorem dX5_step_135 : decode cX5_step 135 = .ok (.iinc 4 1, 3) := by decide +kernel
theorem dX5_step_138 : decode cX5_step 138 = .ok (.goto (-80), 3) := by decide +kernel
theorem dX5_step_141 : decode cX5_step 141 = .ok (.aload_n 0, 1) := by decide +kernel
theorem dX5_step_142 : decode cX5_step 142 = .ok (.invokevirtual 84, 3) := by decide +kernel
theorem dX5_step_145 : decode cX5_step 145 = .ok (.ireturn, 1) := by decide +kernel
theorem dX5_gather_0 : decode cX5_gather 0 = .ok (.iconst 0, 1) := by decide +kernel
theorem dX5_gather_1 : decode cX5_gather 1 = .ok (.istore 5, 2) := by decide +kernel
theorem dX5_gather_3 : decode cX5_gather 3 = .ok (.iload 5, 2) := by decide +kernel
theorem dX5_gather_5 : decode cX5_gather 5 = .ok (.bipush 7, 2) := by decide +kernel
theorem dX5_gather_7 : decode cX5_gather 7 = .ok (.if_icmp .ge 88, 3) := by decide +kernel
theorem dX5_gather_10 : decode cX5_gather 10 = .ok (.aload_n 1, 1) := by decide +kernel
theorem dX5_gather_11 : decode cX5_gather 11 = .ok (.iload_n 2, 1) := by decide +kernel
theorem dX5_gather_12 : decode cX5_gather 12 = .ok (.iload 5, 2) := by decide +kernel
theorem dX5_gather_14 : decode cX5_gather 14 = .ok (.iadd, 1) := by decide +kernel
theorem dX5_gather_15 : decode cX5_gather 15 = .ok (.laload, 1) := by decide +kernel
theorem dX5_gather_16 : decode cX5_gather 16 = .ok (.lstore 6, 2) := by decide +kernel
theorem dX5_gather_18 : decode cX5_gather 18 = .ok (.lload 6, 2) := by decide +kernel
theorem dX5_gather_20 : decode cX5_gather 20 = .ok (.lconst 0, 1) := by decide +kernel
theorem dX5_gather_21 : decode cX5_gather 21 = .ok (.lcmp, 1) := by decide +kernel
theorem dX5_gather_22 : decode cX5_gather 22 = .ok (.ifCond .eq 67, 3) := by decide +kernel
theorem dX5_gather_25 : decode cX5_gather 25 = .ok (.bipush 64, 2) := by decide +kernel
theorem dX5_gather_27 : decode cX5_gather 27 = .ok (.iload 5, 2) := by decide +kernel
theorem dX5_gather_29 : decode cX5_gather 29 = .ok (.imul, 1) := by decide +kernel
theorem dX5_gather_30 : decode cX5_gather 30 = .ok (.bipush 63, 2) := by decide +kernel
theorem dX5_gather_32 : decode cX5_gather 32 = .ok (.iadd, 1) := by decide +kernel
theorem dX5_gather_33 : decode cX5_gather 33 = .ok (.lload 6, 2) := by decide +kernel
theorem dX5_gather_35 : decode cX5_gather 35 = .ok (.invokestatic 75, 3) := by decide +kernel
theorem dX5_gather_38 : decode cX5_gather 38 = .ok (.isub, 1) := by decide +kernel
theorem dX5_gather_39 : decode cX5_gather 39 = .ok (.istore 8, 2) := by decide +kernel
theorem dX5_gather_41 : decode cX5_gather 41 = .ok (.lload 6, 2) := by decide +kernel
theorem dX5_gather_43 : decode cX5_gather 43 = .ok (.lconst 1, 1) := by decide +kernel
theorem dX5_gather_44 : decode cX5_gather 44 = .ok (.iload 8, 2) := by decide +kernel
theorem dX5_gather_46 : decode cX5_gather 46 = .ok (.bipush 64, 2) := by decide +kernel
theorem dX5_gather_48 : decode cX5_gather 48 = .ok (.irem, 1) := by decide +kernel
theorem dX5_gather_49 : decode cX5_gather 49 = .ok (.lshl, 1) := by decide +kernel
theorem dX5_gather_50 : decode cX5_gather 50 = .ok (.lxor, 1) := by decide +kernel
theorem dX5_gather_51 : decode cX5_gather 51 = .ok (.lstore 6, 2) := by decide +kernel
theorem dX5_gather_53 : decode cX5_gather 53 = .ok (.aload_n 0, 1) := by decide +kernel
theorem dX5_gather_54 : decode cX5_gather 54 = .ok (.getfield 45, 3) := by decide +kernel
theorem dX5_gather_57 : decode cX5_gather 57 = .ok (.iload 8, 2) := by decide +kernel
theorem dX5_gather_59 : decode cX5_gather 59 = .ok (.iload_n 3, 1) := by decide +kernel
theorem dX5_gather_60 : decode cX5_gather 60 = .ok (.invokevirtual 88, 3) := by decide +kernel
theorem dX5_gather_63 : decode cX5_gather 63 = .ok (.ifCond .eq 23, 3) := by decide +kernel
theorem dX5_gather_66 : decode cX5_gather 66 = .ok (.aload_n 0, 1) := by decide +kernel
theorem dX5_gather_67 : decode cX5_gather 67 = .ok (.getfield 9, 3) := by decide +kernel
theorem dX5_gather_70 : decode cX5_gather 70 = .ok (.iload 4, 2) := by decide +kernel
theorem dX5_gather_72 : decode cX5_gather 72 = .ok (.iload 5, 2) := by decide +kernel
theorem dX5_gather_74 : decode cX5_gather 74 = .ok (.iadd, 1) := by decide +kernel
theorem dX5_gather_75 : decode cX5_gather 75 = .ok (.dup2, 1) := by decide +kernel
theorem dX5_gather_76 : decode cX5_gather 76 = .ok (.laload, 1) := by decide +kernel
theorem dX5_gather_77 : decode cX5_gather 77 = .ok (.lconst 1, 1) := by decide +kernel
theorem dX5_gather_78 : decode cX5_gather 78 = .ok (.iload 8, 2) := by decide +kernel
theorem dX5_gather_80 : decode cX5_gather 80 = .ok (.bipush 64, 2) := by decide +kernel
theorem dX5_gather_82 : decode cX5_gather 82 = .ok (.irem, 1) := by decide +kernel
theorem dX5_gather_83 : decode cX5_gather 83 = .ok (.lshl, 1) := by decide +kernel
theorem dX5_gather_84 : decode cX5_gather 84 = .ok (.lor, 1) := by decide +kernel
theorem dX5_gather_85 : decode cX5_gather 85 = .ok (.lastore, 1) := by decide +kernel
theorem dX5_gather_86 : decode cX5_gather 86 = .ok (.goto (-68), 3) := by decide +kernel
theorem dX5_gather_89 : decode cX5_gather 89 = .ok (.iinc 5 1, 3) := by decide +kernel
theorem dX5_gather_92 : decode cX5_gather 92 = .ok (.goto (-89), 3) := by decide +kernel
theorem dX5_gather_95 : decode cX5_gather 95 = .ok (.return_, 1) := by decide +kernel
theorem dX5_found_0 : decode cX5_found 0 = .ok (.lconst 0, 1) := by decide +kernel
theorem dX5_found_1 : decode cX5_found 1 = .ok (.lstore_n 1, 1) := by decide +kernel
theorem dX5_found_2 : decode cX5_found 2 = .ok (.iconst 0, 1) := by decide +kernel
theorem dX5_found_3 : decode cX5_found 3 = .ok (.istore_n 3, 1) := by decide +kernel
theorem dX5_found_4 : decode cX5_found 4 = .ok (.iload_n 3, 1) := by decide +kernel
theorem dX5_found_5 : decode cX5_found 5 = .ok (.bipush 7, 2) := by decide +kernel
theorem dX5_found_7 : decode cX5_found 7 = .ok (.if_icmp .ge 30, 3) := by decide +kernel
theorem dX5_found_10 : decode cX5_found 10 = .ok (.ldc2_w 92, 3) := by decide +kernel
theorem dX5_found_13 : decode cX5_found 13 = .ok (.lload_n 1, 1) := by decide +kernel
theorem dX5_found_14 : decode cX5_found 14 = .ok (.lmul, 1) := by decide +kernel
theorem dX5_found_15 : decode cX5_found 15 = .ok (.aload_n 0, 1) := by decide +kernel
theorem dX5_found_16 : decode cX5_found 16 = .ok (.getfield 9, 3) := by decide +kernel
theorem dX5_found_19 : decode cX5_found 19 = .ok (.bipush 7, 2) := by decide +kernel
theorem dX5_found_21 : decode cX5_found 21 = .ok (.aload_n 0, 1) := by decide +kernel
theorem dX5_found_22 : decode cX5_found 22 = .ok (.getfield 56, 3) := by decide +kernel
theorem dX5_found_25 : decode cX5_found 25 = .ok (.imul, 1) := by decide +kernel
theorem dX5_found_26 : decode cX5_found 26 = .ok (.iload_n 3, 1) := by decide +kernel
theorem dX5_found_27 : decode cX5_found 27 = .ok (.iadd, 1) := by decide +kernel
theorem dX5_found_28 : decode cX5_found 28 = .ok (.laload, 1) := by decide +kernel
theorem dX5_found_29 : decode cX5_found 29 = .ok (.ladd, 1) := by decide +kernel
theorem dX5_found_30 : decode cX5_found 30 = .ok (.lstore_n 1, 1) := by decide +kernel
theorem dX5_found_31 : decode cX5_found 31 = .ok (.iinc 3 1, 3) := by decide +kernel
theorem dX5_found_34 : decode cX5_found 34 = .ok (.goto (-30), 3) := by decide +kernel
theorem dX5_found_37 : decode cX5_found 37 = .ok (.lload_n 1, 1) := by decide +kernel
theorem dX5_found_38 : decode cX5_found 38 = .ok (.lload_n 1, 1) := by decide +kernel
theorem dX5_found_39 : decode cX5_found 39 = .ok (.bipush 32, 2) := by decide +kernel
theorem dX5_found_41 : decode cX5_found 41 = .ok (.lushr, 1) := by decide +kernel
theorem dX5_found_42 : decode cX5_found 42 = .ok (.lxor, 1) := by decide +kernel
theorem dX5_found_43 : decode cX5_found 43 = .ok (.lload_n 1, 1) := by decide +kernel
theorem dX5_found_44 : decode cX5_found 44 = .ok (.bipush 17, 2) := by decide +kernel
theorem dX5_found_46 : decode cX5_found 46 = .ok (.lushr, 1) := by decide +kernel
theorem dX5_found_47 : decode cX5_found 47 = .ok (.lxor, 1) := by decide +kernel
theorem dX5_found_48 : decode cX5_found 48 = .ok (.l2i, 1) := by decide +kernel
theorem dX5_found_49 : decode cX5_found 49 = .ok (.aload_n 0, 1) := by decide +kernel
theorem dX5_found_50 : decode cX5_found 50 = .ok (.getfield 23, 3) := by decide +kernel
theorem dX5_found_53 : decode cX5_found 53 = .ok (.arraylength, 1) := by decide +kernel
theorem dX5_found_54 : decode cX5_found 54 = .ok (.iconst 1, 1) := by decide +kernel
theorem dX5_found_55 : decode cX5_found 55 = .ok (.isub, 1) := by decide +kernel
theorem dX5_found_56 : decode cX5_found 56 = .ok (.iand, 1) := by decide +kernel
theorem dX5_found_57 : decode cX5_found 57 = .ok (.istore_n 3, 1) := by decide +kernel
theorem dX5_found_58 : decode cX5_found 58 = .ok (.aload_n 0, 1) := by decide +kernel
theorem dX5_found_59 : decode cX5_found 59 = .ok (.getfield 23, 3) := by decide +kernel
theorem dX5_found_62 : decode cX5_found 62 = .ok (.iload_n 3, 1) := by decide +kernel
theorem dX5_found_63 : decode cX5_found 63 = .ok (.iaload, 1) := by decide +kernel
theorem dX5_found_64 : decode cX5_found 64 = .ok (.istore 4, 2) := by decide +kernel
theorem dX5_found_66 : decode cX5_found 66 = .ok (.iload 4, 2) := by decide +kernel
theorem dX5_found_68 : decode cX5_found 68 = .ok (.ifCond .lt 86, 3) := by decide +kernel
theorem dX5_found_71 : decode cX5_found 71 = .ok (.iconst 1, 1) := by decide +kernel
theorem dX5_found_72 : decode cX5_found 72 = .ok (.istore 5, 2) := by decide +kernel
theorem dX5_found_74 : decode cX5_found 74 = .ok (.iconst 0, 1) := by decide +kernel
theorem dX5_found_75 : decode cX5_found 75 = .ok (.istore 6, 2) := by decide +kernel
theorem dX5_found_77 : decode cX5_found 77 = .ok (.iload 6, 2) := by decide +kernel
theorem dX5_found_79 : decode cX5_found 79 = .ok (.bipush 7, 2) := by decide +kernel
theorem dX5_found_81 : decode cX5_found 81 = .ok (.if_icmp .ge 53, 3) := by decide +kernel
theorem dX5_found_84 : decode cX5_found 84 = .ok (.iload 5, 2) := by decide +kernel
theorem dX5_found_86 : decode cX5_found 86 = .ok (.ifCond .eq 48, 3) := by decide +kernel
theorem dX5_found_89 : decode cX5_found 89 = .ok (.aload_n 0, 1) := by decide +kernel
theorem dX5_found_90 : decode cX5_found 90 = .ok (.getfield 9, 3) := by decide +kernel
theorem dX5_found_93 : decode cX5_found 93 = .ok (.bipush 7, 2) := by decide +kernel
theorem dX5_found_95 : decode cX5_found 95 = .ok (.iload 4, 2) := by decide +kernel
theorem dX5_found_97 : decode cX5_found 97 = .ok (.imul, 1) := by decide +kernel
theorem dX5_found_98 : decode cX5_found 98 = .ok (.iload 6, 2) := by decide +kernel
theorem dX5_found_100 : decode cX5_found 100 = .ok (.iadd, 1) := by decide +kernel
theorem dX5_found_101 : decode cX5_found 101 = .ok (.laload, 1) := by decide +kernel
theorem dX5_found_102 : decode cX5_found 102 = .ok (.aload_n 0, 1) := by decide +kernel
theorem dX5_found_103 : decode cX5_found 103 = .ok (.getfield 9, 3) := by decide +kernel
theorem dX5_found_106 : decode cX5_found 106 = .ok (.bipush 7, 2) := by decide +kernel
theorem dX5_found_108 : decode cX5_found 108 = .ok (.aload_n 0, 1) := by decide +kernel
theorem dX5_found_109 : decode cX5_found 109 = .ok (.getfield 56, 3) := by decide +kernel
theorem dX5_found_112 : decode cX5_found 112 = .ok (.imul, 1) := by decide +kernel
theorem dX5_found_113 : decode cX5_found 113 = .ok (.iload 6, 2) := by decide +kernel
theorem dX5_found_115 : decode cX5_found 115 = .ok (.iadd, 1) := by decide +kernel
theorem dX5_found_116 : decode cX5_found 116 = .ok (.laload, 1) := by decide +kernel
theorem dX5_found_117 : decode cX5_found 117 = .ok (.lcmp, 1) := by decide +kernel
theorem dX5_found_118 : decode cX5_found 118 = .ok (.ifCond .ne 7, 3) := by decide +kernel
theorem dX5_found_121 : decode cX5_found 121 = .ok (.iconst 1, 1) := by decide +kernel
theorem dX5_found_122 : decode cX5_found 122 = .ok (.goto 4, 3) := by decide +kernel
theorem dX5_found_125 : decode cX5_found 125 = .ok (.iconst 0, 1) := by decide +kernel
theorem dX5_found_126 : decode cX5_found 126 = .ok (.istore 5, 2) := by decide +kernel
theorem dX5_found_128 : decode cX5_found 128 = .ok (.iinc 6 1, 3) := by decide +kernel
theorem dX5_found_131 : decode cX5_found 131 = .ok (.goto (-54), 3) := by decide +kernel
theorem dX5_found_134 : decode cX5_found 134 = .ok (.iload 5, 2) := by decide +kernel
theorem dX5_found_136 : decode cX5_found 136 = .ok (.ifCond .eq 6, 3) := by decide +kernel
theorem dX5_found_139 : decode cX5_found 139 = .ok (.iload 4, 2) := by decide +kernel
theorem dX5_found_141 : decode cX5_found 141 = .ok (.ireturn, 1) := by decide +kernel
theorem dX5_found_142 : decode cX5_found 142 = .ok (.aload_n 0, 1) := by decide +kernel
theorem dX5_found_143 : decode cX5_found 143 = .ok (.getfield 26, 3) := by decide +kernel
theorem dX5_found_146 : decode cX5_found 146 = .ok (.iload 4, 2) := by decide +kernel
theorem dX5_found_148 : decode cX5_found 148 = .ok (.iaload, 1) := by decide +kernel
theorem dX5_found_149 : decode cX5_found 149 = .ok (.istore 4, 2) := by decide +kernel
theorem dX5_found_151 : decode cX5_found 151 = .ok (.goto (-85), 3) := by decide +kernel
theorem dX5_found_154 : decode cX5_found 154 = .ok (.aload_n 0, 1) := by decide +kernel
theorem dX5_found_155 : decode cX5_found 155 = .ok (.getfield 56, 3) := by decide +kernel
theorem dX5_found_158 : decode cX5_found 158 = .ok (.sipush 400, 3) := by decide +kernel
theorem dX5_found_161 : decode cX5_found 161 = .ok (.if_icmp .le 5, 3) := by decide +kernel
theorem dX5_found_164 : decode cX5_found 164 = .ok (.iconst (-1), 1) := by decide +kernel
theorem dX5_found_165 : decode cX5_found 165 = .ok (.ireturn, 1) := by decide +kernel
theorem dX5_found_166 : decode cX5_found 166 = .ok (.aload_n 0, 1) := by decide +kernel
theorem dX5_found_167 : decode cX5_found 167 = .ok (.getfield 26, 3) := by decide +kernel
theorem dX5_found_170 : decode cX5_found 170 = .ok (.aload_n 0, 1) := by decide +kernel
theorem dX5_found_171 : decode cX5_found 171 = .ok (.getfield 56, 3) := by decide +kernel
theorem dX5_found_174 : decode cX5_found 174 = .ok (.aload_n 0, 1) := by decide +kernel
theorem dX5_found_175 : decode cX5_found 175 = .ok (.getfield 23, 3) := by decide +kernel
theorem dX5_found_178 : decode cX5_found 178 = .ok (.iload_n 3, 1) := by decide +kernel
theorem dX5_found_179 : decode cX5_found 179 = .ok (.iaload, 1) := by decide +kernel
theorem dX5_found_180 : decode cX5_found 180 = .ok (.iastore, 1) := by decide +kernel
theorem dX5_found_181 : decode cX5_found 181 = .ok (.aload_n 0, 1) := by decide +kernel
theorem dX5_found_182 : decode cX5_found 182 = .ok (.getfield 23, 3) := by decide +kernel
theorem dX5_found_185 : decode cX5_found 185 = .ok (.iload_n 3, 1) := by decide +kernel
theorem dX5_found_186 : decode cX5_found 186 = .ok (.aload_n 0, 1) := by decide +kernel
theorem dX5_found_187 : decode cX5_found 187 = .ok (.getfield 56, 3) := by decide +kernel
theorem dX5_found_190 : decode cX5_found 190 = .ok (.iastore, 1) := by decide +kernel
theorem dX5_found_191 : decode cX5_found 191 = .ok (.aload_n 0, 1) := by decide +kernel
theorem dX5_found_192 : decode cX5_found 192 = .ok (.getfield 20, 3) := by decide +kernel
theorem dX5_found_195 : decode cX5_found 195 = .ok (.aload_n 0, 1) := by decide +kernel
theorem dX5_found_196 : decode cX5_found 196 = .ok (.getfield 56, 3) := by decide +kernel
theorem dX5_found_199 : decode cX5_found 199 = .ok (.aload_n 0, 1) := by decide +kernel
theorem dX5_found_200 : decode cX5_found 200 = .ok (.aload_n 0, 1) := by decide +kernel
theorem dX5_found_201 : decode cX5_found 201 = .ok (.getfield 56, 3) := by decide +kernel
theorem dX5_found_204 : decode cX5_found 204 = .ok (.invokevirtual 94, 3) := by decide +kernel
theorem dX5_found_207 : decode cX5_found 207 = .ok (.iastore, 1) := by decide +kernel
theorem dX5_found_208 : decode cX5_found 208 = .ok (.aload_n 0, 1) := by decide +kernel
theorem dX5_found_209 : decode cX5_found 209 = .ok (.dup, 1) := by decide +kernel
theorem dX5_found_210 : decode cX5_found 210 = .ok (.getfield 56, 3) := by decide +kernel
theorem dX5_found_213 : decode cX5_found 213 = .ok (.iconst 1, 1) := by decide +kernel
theorem dX5_found_214 : decode cX5_found 214 = .ok (.iadd, 1) := by decide +kernel
theorem dX5_found_215 : decode cX5_found 215 = .ok (.putfield 56, 3) := by decide +kernel
theorem dX5_found_218 : decode cX5_found 218 = .ok (.aload_n 0, 1) := by decide +kernel
theorem dX5_found_219 : decode cX5_found 219 = .ok (.getfield 56, 3) := by decide +kernel
theorem dX5_found_222 : decode cX5_found 222 = .ok (.iconst 1, 1) := by decide +kernel
theorem dX5_found_223 : decode cX5_found 223 = .ok (.isub, 1) := by decide +kernel
theorem dX5_found_224 : decode cX5_found 224 = .ok (.ireturn, 1) := by decide +kernel
theorem dX5_pattern_0 : decode cX5_pattern 0 = .ok (.iconst (-1), 1) := by decide +kernel
theorem dX5_pattern_1 : decode cX5_pattern 1 = .ok (.istore_n 2, 1) := by decide +kernel
theorem dX5_pattern_2 : decode cX5_pattern 2 = .ok (.iconst 0, 1) := by decide +kernel
theorem dX5_pattern_3 : decode cX5_pattern 3 = .ok (.istore_n 3, 1) := by decide +kernel
theorem dX5_pattern_4 : decode cX5_pattern 4 = .ok (.iload_n 3, 1) := by decide +kernel
theorem dX5_pattern_5 : decode cX5_pattern 5 = .ok (.aload_n 0, 1) := by decide +kernel
theorem dX5_pattern_6 : decode cX5_pattern 6 = .ok (.getfield 45, 3) := by decide +kernel
theorem dX5_pattern_9 : decode cX5_pattern 9 = .ok (.getfield 98, 3) := by decide +kernel
theorem dX5_pattern_12 : decode cX5_pattern 12 = .ok (.if_icmp .ge 66, 3) := by decide +kernel
theorem dX5_pattern_15 : decode cX5_pattern 15 = .ok (.aload_n 0, 1) := by decide +kernel
theorem dX5_pattern_16 : decode cX5_pattern 16 = .ok (.getfield 9, 3) := by decide +kernel
theorem dX5_pattern_19 : decode cX5_pattern 19 = .ok (.bipush 7, 2) := by decide +kernel
theorem dX5_pattern_21 : decode cX5_pattern 21 = .ok (.iload_n 1, 1) := by decide +kernel
theorem dX5_pattern_22 : decode cX5_pattern 22 = .ok (.imul, 1) := by decide +kernel
theorem dX5_pattern_23 : decode cX5_pattern 23 = .ok (.iload_n 3, 1) := by decide +kernel
theorem dX5_pattern_24 : decode cX5_pattern 24 = .ok (.invokestatic 101, 3) := by decide +kernel
theorem dX5_pattern_27 : decode cX5_pattern 27 = .ok (.ifCond .eq 45, 3) := by decide +kernel
theorem dX5_pattern_30 : decode cX5_pattern 30 = .ok (.aload_n 0, 1) := by decide +kernel
theorem dX5_pattern_31 : decode cX5_pattern 31 = .ok (.getfield 45, 3) := by decide +kernel
theorem dX5_pattern_34 : decode cX5_pattern 34 = .ok (.getfield 105, 3) := by decide +kernel
theorem dX5_pattern_37 : decode cX5_pattern 37 = .ok (.iload_n 3, 1) := by decide +kernel
theorem dX5_pattern_38 : decode cX5_pattern 38 = .ok (.baload, 1) := by decide +kernel
theorem dX5_pattern_39 : decode cX5_pattern 39 = .ok (.ifCond .ne 6, 3) := by decide +kernel
theorem dX5_pattern_42 : decode cX5_pattern 42 = .ok (.goto 30, 3) := by decide +kernel
theorem dX5_pattern_45 : decode cX5_pattern 45 = .ok (.iload_n 2, 1) := by decide +kernel
theorem dX5_pattern_46 : decode cX5_pattern 46 = .ok (.ifCond .lt 16, 3) := by decide +kernel
theorem dX5_pattern_49 : decode cX5_pattern 49 = .ok (.aload_n 0, 1) := by decide +kernel
theorem dX5_pattern_50 : decode cX5_pattern 50 = .ok (.getfield 45, 3) := by decide +kernel
theorem dX5_pattern_53 : decode cX5_pattern 53 = .ok (.getfield 108, 3) := by decide +kernel
theorem dX5_pattern_56 : decode cX5_pattern 56 = .ok (.iload_n 3, 1) := by decide +kernel
theorem dX5_pattern_57 : decode cX5_pattern 57 = .ok (.iaload, 1) := by decide +kernel
theorem dX5_pattern_58 : decode cX5_pattern 58 = .ok (.iload_n 2, 1) := by decide +kernel
theorem dX5_pattern_59 : decode cX5_pattern 59 = .ok (.if_icmp .ge 13, 3) := by decide +kernel
theorem dX5_pattern_62 : decode cX5_pattern 62 = .ok (.aload_n 0, 1) := by decide +kernel
theorem dX5_pattern_63 : decode cX5_pattern 63 = .ok (.getfield 45, 3) := by decide +kernel
theorem dX5_pattern_66 : decode cX5_pattern 66 = .ok (.getfield 108, 3) := by decide +kernel
theorem dX5_pattern_69 : decode cX5_pattern 69 = .ok (.iload_n 3, 1) := by decide +kernel
theorem dX5_pattern_70 : decode cX5_pattern 70 = .ok (.iaload, 1) := by decide +kernel
theorem dX5_pattern_71 : decode cX5_pattern 71 = .ok (.istore_n 2, 1) := by decide +kernel
theorem dX5_pattern_72 : decode cX5_pattern 72 = .ok (.iinc 3 1, 3) := by decide +kernel
theorem dX5_pattern_75 : decode cX5_pattern 75 = .ok (.goto (-71), 3) := by decide +kernel
theorem dX5_pattern_78 : decode cX5_pattern 78 = .ok (.iload_n 2, 1) := by decide +kernel
theorem dX5_pattern_79 : decode cX5_pattern 79 = .ok (.ireturn, 1) := by decide +kernel
theorem dX5_least_0 : decode cX5_least 0 = .ok (.aload_n 0, 1) := by decide +kernel
theorem dX5_least_1 : decode cX5_least 1 = .ok (.invokevirtual 111, 3) := by decide +kernel
theorem dX5_least_4 : decode cX5_least 4 = .ok (.iconst 0, 1) := by decide +kernel
theorem dX5_least_5 : decode cX5_least 5 = .ok (.istore_n 1, 1) := by decide +kernel
theorem dX5_least_6 : decode cX5_least 6 = .ok (.iload_n 1, 1) := by decide +kernel
theorem dX5_least_7 : decode cX5_least 7 = .ok (.aload_n 0, 1) := by decide +kernel
theorem dX5_least_8 : decode cX5_least 8 = .ok (.getfield 56, 3) := by decide +kernel
theorem dX5_least_11 : decode cX5_least 11 = .ok (.if_icmp .ge 36, 3) := by decide +kernel
theorem dX5_least_14 : decode cX5_least 14 = .ok (.aload_n 0, 1) := by decide +kernel
theorem dX5_least_15 : decode cX5_least 15 = .ok (.getfield 29, 3) := by decide +kernel
theorem dX5_least_18 : decode cX5_least 18 = .ok (.iload_n 1, 1) := by decide +kernel
theorem dX5_least_19 : decode cX5_least 19 = .ok (.aload_n 0, 1) := by decide +kernel
theorem dX5_least_20 : decode cX5_least 20 = .ok (.getfield 35, 3) := by decide +kernel
theorem dX5_least_23 : decode cX5_least 23 = .ok (.iload_n 1, 1) := by decide +kernel
theorem dX5_least_24 : decode cX5_least 24 = .ok (.baload, 1) := by decide +kernel
theorem dX5_least_25 : decode cX5_least 25 = .ok (.ifCond .eq 14, 3) := by decide +kernel
theorem dX5_least_28 : decode cX5_least 28 = .ok (.aload_n 0, 1) := by decide +kernel
theorem dX5_least_29 : decode cX5_least 29 = .ok (.getfield 20, 3) := by decide +kernel
theorem dX5_least_32 : decode cX5_least 32 = .ok (.iload_n 1, 1) := by decide +kernel
theorem dX5_least_33 : decode cX5_least 33 = .ok (.iaload, 1) := by decide +kernel
theorem dX5_least_34 : decode cX5_least 34 = .ok (.iconst 2, 1) := by decide +kernel
theorem dX5_least_35 : decode cX5_least 35 = .ok (.iadd, 1) := by decide +kernel
theorem dX5_least_36 : decode cX5_least 36 = .ok (.goto 4, 3) := by decide +kernel
theorem dX5_least_39 : decode cX5_least 39 = .ok (.iconst 0, 1) := by decide +kernel
theorem dX5_least_40 : decode cX5_least 40 = .ok (.iastore, 1) := by decide +kernel
theorem dX5_least_41 : decode cX5_least 41 = .ok (.iinc 1 1, 3) := by decide +kernel
theorem dX5_least_44 : decode cX5_least 44 = .ok (.goto (-38), 3) := by decide +kernel
theorem dX5_least_47 : decode cX5_least 47 = .ok (.iconst 0, 1) := by decide +kernel
theorem dX5_least_48 : decode cX5_least 48 = .ok (.istore_n 1, 1) := by decide +kernel
theorem dX5_least_49 : decode cX5_least 49 = .ok (.iload_n 1, 1) := by decide +kernel
theorem dX5_least_50 : decode cX5_least 50 = .ok (.istore_n 2, 1) := by decide +kernel
theorem dX5_least_51 : decode cX5_least 51 = .ok (.aload_n 0, 1) := by decide +kernel
theorem dX5_least_52 : decode cX5_least 52 = .ok (.invokevirtual 114, 3) := by decide +kernel
theorem dX5_least_55 : decode cX5_least 55 = .ok (.istore_n 1, 1) := by decide +kernel
theorem dX5_least_56 : decode cX5_least 56 = .ok (.iload_n 1, 1) := by decide +kernel
theorem dX5_least_57 : decode cX5_least 57 = .ok (.iload_n 2, 1) := by decide +kernel
theorem dX5_least_58 : decode cX5_least 58 = .ok (.if_icmp .ne (-9), 3) := by decide +kernel
theorem dX5_least_61 : decode cX5_least 61 = .ok (.aload_n 0, 1) := by decide +kernel
theorem dX5_least_62 : decode cX5_least 62 = .ok (.invokevirtual 117, 3) := by decide +kernel
theorem dX5_least_65 : decode cX5_least 65 = .ok (.ireturn, 1) := by decide +kernel
theorem dX5_alive_0 : decode cX5_alive 0 = .ok (.iconst 0, 1) := by decide +kernel
theorem dX5_alive_1 : decode cX5_alive 1 = .ok (.istore_n 1, 1) := by decide +kernel
theorem dX5_alive_2 : decode cX5_alive 2 = .ok (.iload_n 1, 1) := by decide +kernel
theorem dX5_alive_3 : decode cX5_alive 3 = .ok (.aload_n 0, 1) := by decide +kernel
theorem dX5_alive_4 : decode cX5_alive 4 = .ok (.getfield 56, 3) := by decide +kernel
theorem dX5_alive_7 : decode cX5_alive 7 = .ok (.if_icmp .ge 29, 3) := by decide +kernel
theorem dX5_alive_10 : decode cX5_alive 10 = .ok (.aload_n 0, 1) := by decide +kernel
theorem dX5_alive_11 : decode cX5_alive 11 = .ok (.getfield 35, 3) := by decide +kernel
theorem dX5_alive_14 : decode cX5_alive 14 = .ok (.iload_n 1, 1) := by decide +kernel
theorem dX5_alive_15 : decode cX5_alive 15 = .ok (.aload_n 0, 1) := by decide +kernel
theorem dX5_alive_16 : decode cX5_alive 16 = .ok (.getfield 20, 3) := by decide +kernel
theorem dX5_alive_19 : decode cX5_alive 19 = .ok (.iload_n 1, 1) := by decide +kernel
theorem dX5_alive_20 : decode cX5_alive 20 = .ok (.iaload, 1) := by decide +kernel
theorem dX5_alive_21 : decode cX5_alive 21 = .ok (.ifCond .lt 7, 3) := by decide +kernel
theorem dX5_alive_24 : decode cX5_alive 24 = .ok (.iconst 1, 1) := by decide +kernel
theorem dX5_alive_25 : decode cX5_alive 25 = .ok (.goto 4, 3) := by decide +kernel
theorem dX5_alive_28 : decode cX5_alive 28 = .ok (.iconst 0, 1) := by decide +kernel
theorem dX5_alive_29 : decode cX5_alive 29 = .ok (.bastore, 1) := by decide +kernel
theorem dX5_alive_30 : decode cX5_alive 30 = .ok (.iinc 1 1, 3) := by decide +kernel
theorem dX5_alive_33 : decode cX5_alive 33 = .ok (.goto (-31), 3) := by decide +kernel
theorem dX5_alive_36 : decode cX5_alive 36 = .ok (.iconst 1, 1) := by decide +kernel
theorem dX5_alive_37 : decode cX5_alive 37 = .ok (.istore_n 1, 1) := by decide +kernel
theorem dX5_alive_38 : decode cX5_alive 38 = .ok (.iload_n 1, 1) := by decide +kernel
theorem dX5_alive_39 : decode cX5_alive 39 = .ok (.ifCond .eq 81, 3) := by decide +kernel
theorem dX5_alive_42 : decode cX5_alive 42 = .ok (.iconst 0, 1) := by decide +kernel
theorem dX5_alive_43 : decode cX5_alive 43 = .ok (.istore_n 1, 1) := by decide +kernel
theorem dX5_alive_44 : decode cX5_alive 44 = .ok (.aload_n 0, 1) := by decide +kernel
theorem dX5_alive_45 : decode cX5_alive 45 = .ok (.getfield 56, 3) := by decide +kernel
theorem dX5_alive_48 : decode cX5_alive 48 = .ok (.iconst 1, 1) := by decide +kernel
theorem dX5_alive_49 : decode cX5_alive 49 = .ok (.isub, 1) := by decide +kernel
theorem dX5_alive_50 : decode cX5_alive 50 = .ok (.istore_n 2, 1) := by decide +kernel
theorem dX5_alive_51 : decode cX5_alive 51 = .ok (.iload_n 2, 1) := by decide +kernel
theorem dX5_alive_52 : decode cX5_alive 52 = .ok (.ifCond .lt 65, 3) := by decide +kernel
theorem dX5_alive_55 : decode cX5_alive 55 = .ok (.iconst 0, 1) := by decide +kernel
theorem dX5_alive_56 : decode cX5_alive 56 = .ok (.istore_n 3, 1) := by decide +kernel
theorem dX5_alive_57 : decode cX5_alive 57 = .ok (.iload_n 3, 1) := by decide +kernel
theorem dX5_alive_58 : decode cX5_alive 58 = .ok (.sipush 128, 3) := by decide +kernel
theorem dX5_alive_61 : decode cX5_alive 61 = .ok (.if_icmp .ge 50, 3) := by decide +kernel
theorem dX5_alive_64 : decode cX5_alive 64 = .ok (.aload_n 0, 1) := by decide +kernel
theorem dX5_alive_65 : decode cX5_alive 65 = .ok (.getfield 35, 3) := by decide +kernel
theorem dX5_alive_68 : decode cX5_alive 68 = .ok (.iload_n 2, 1) := by decide +kernel
theorem dX5_alive_69 : decode cX5_alive 69 = .ok (.baload, 1) := by decide +kernel
theorem dX5_alive_70 : decode cX5_alive 70 = .ok (.ifCond .ne 41, 3) := by decide +kernel
theorem dX5_alive_73 : decode cX5_alive 73 = .ok (.aload_n 0, 1) := by decide +kernel
theorem dX5_alive_74 : decode cX5_alive 74 = .ok (.getfield 35, 3) := by decide +kernel
theorem dX5_alive_77 : decode cX5_alive 77 = .ok (.aload_n 0, 1) := by decide +kernel
theorem dX5_alive_78 : decode cX5_alive 78 = .ok (.getfield 16, 3) := by decide +kernel
theorem dX5_alive_81 : decode cX5_alive 81 = .ok (.sipush 128, 3) := by decide +kernel
theorem dX5_alive_84 : decode cX5_alive 84 = .ok (.iload_n 2, 1) := by decide +kernel
theorem dX5_alive_85 : decode cX5_alive 85 = .ok (.imul, 1) := by decide +kernel
theorem dX5_alive_86 : decode cX5_alive 86 = .ok (.iload_n 3, 1) := by decide +kernel
theorem dX5_alive_87 : decode cX5_alive 87 = .ok (.iadd, 1) := by decide +kernel
theorem dX5_alive_88 : decode cX5_alive 88 = .ok (.iaload, 1) := by decide +kernel
theorem dX5_alive_89 : decode cX5_alive 89 = .ok (.baload, 1) := by decide +kernel
theorem dX5_alive_90 : decode cX5_alive 90 = .ok (.ifCond .ne 6, 3) := by decide +kernel
theorem dX5_alive_93 : decode cX5_alive 93 = .ok (.goto 12, 3) := by decide +kernel
theorem dX5_alive_96 : decode cX5_alive 96 = .ok (.aload_n 0, 1) := by decide +kernel
theorem dX5_alive_97 : decode cX5_alive 97 = .ok (.getfield 35, 3) := by decide +kernel
theorem dX5_alive_100 : decode cX5_alive 100 = .ok (.iload_n 2, 1) := by decide +kernel
theorem dX5_alive_101 : decode cX5_alive 101 = .ok (.iconst 1, 1) := by decide +kernel
theorem dX5_alive_102 : decode cX5_alive 102 = .ok (.bastore, 1) := by decide +kernel
theorem dX5_alive_103 : decode cX5_alive 103 = .ok (.iconst 1, 1) := by decide +kernel
theorem dX5_alive_104 : decode cX5_alive 104 = .ok (.istore_n 1, 1) := by decide +kernel
theorem dX5_alive_105 : decode cX5_alive 105 = .ok (.iinc 3 1, 3) := by decide +kernel
theorem dX5_alive_108 : decode cX5_alive 108 = .ok (.goto (-51), 3) := by decide +kernel
theorem dX5_alive_111 : decode cX5_alive 111 = .ok (.iinc 2 (-1), 3) := by decide +kernel
theorem dX5_alive_114 : decode cX5_alive 114 = .ok (.goto (-63), 3) := by decide +kernel
theorem dX5_alive_117 : decode cX5_alive 117 = .ok (.goto (-79), 3) := by decide +kernel
theorem dX5_alive_120 : decode cX5_alive 120 = .ok (.return_, 1) := by decide +kernel
theorem dX5_split_0 : decode cX5_split 0 = .ok (.iconst 0, 1) := by decide +kernel
theorem dX5_split_1 : decode cX5_split 1 = .ok (.istore_n 1, 1) := by decide +kernel
theorem dX5_split_2 : decode cX5_split 2 = .ok (.iconst 0, 1) := by decide +kernel
theorem dX5_split_3 : decode cX5_split 3 = .ok (.istore_n 2, 1) := by decide +kernel
theorem dX5_split_4 : decode cX5_split 4 = .ok (.iload_n 2, 1) := by decide +kernel
theorem dX5_split_5 : decode cX5_split 5 = .ok (.aload_n 0, 1) := by decide +kernel
theorem dX5_split_6 : decode cX5_split 6 = .ok (.getfield 23, 3) := by decide +kernel
theorem dX5_split_9 : decode cX5_split 9 = .ok (.arraylength, 1) := by decide +kernel
theorem dX5_split_10 : decode cX5_split 10 = .ok (.if_icmp .ge 16, 3) := by decide +kernel
theorem dX5_split_13 : decode cX5_split 13 = .ok (.aload_n 0, 1) := by decide +kernel
theorem dX5_split_14 : decode cX5_split 14 = .ok (.getfield 23, 3) := by decide +kernel
theorem dX5_split_17 : decode cX5_split 17 = .ok (.iload_n 2, 1) := by decide +kernel
theorem dX5_split_18 : decode cX5_split 18 = .ok (.iconst (-1), 1) := by decide +kernel
theorem dX5_split_19 : decode cX5_split 19 = .ok (.iastore, 1) := by decide +kernel
theorem dX5_split_20 : decode cX5_split 20 = .ok (.iinc 2 1, 3) := by decide +kernel
theorem dX5_split_23 : decode cX5_split 23 = .ok (.goto (-19), 3) := by decide +kernel
theorem dX5_split_26 : decode cX5_split 26 = .ok (.iconst 0, 1) := by decide +kernel
theorem dX5_split_27 : decode cX5_split 27 = .ok (.istore_n 2, 1) := by decide +kernel
theorem dX5_split_28 : decode cX5_split 28 = .ok (.iload_n 2, 1) := by decide +kernel
theorem dX5_split_29 : decode cX5_split 29 = .ok (.aload_n 0, 1) := by decide +kernel
theorem dX5_split_30 : decode cX5_split 30 = .ok (.getfield 56, 3) := by decide +kernel
theorem dX5_split_33 : decode cX5_split 33 = .ok (.if_icmp .ge 161, 3) := by decide +kernel
theorem dX5_split_36 : decode cX5_split 36 = .ok (.aload_n 0, 1) := by decide +kernel
theorem dX5_split_37 : decode cX5_split 37 = .ok (.getfield 29, 3) := by decide +kernel
theorem dX5_split_40 : decode cX5_split 40 = .ok (.iload_n 2, 1) := by decide +kernel
theorem dX5_split_41 : decode cX5_split 41 = .ok (.iaload, 1) := by decide +kernel
theorem dX5_split_42 : decode cX5_split 42 = .ok (.istore_n 3, 1) := by decide +kernel
theorem dX5_split_43 : decode cX5_split 43 = .ok (.iconst 0, 1) := by decide +kernel
theorem dX5_split_44 : decode cX5_split 44 = .ok (.istore 4, 2) := by decide +kernel
theorem dX5_split_46 : decode cX5_split 46 = .ok (.iload 4, 2) := by decide +kernel
theorem dX5_split_48 : decode cX5_split 48 = .ok (.sipush 128, 3) := by decide +kernel
theorem dX5_split_51 : decode cX5_split 51 = .ok (.if_icmp .ge 33, 3) := by decide +kernel
theorem dX5_split_54 : decode cX5_split 54 = .ok (.bipush 31, 2) := by decide +kernel
theorem dX5_split_56 : decode cX5_split 56 = .ok (.iload_n 3, 1) := by decide +kernel
theorem dX5_split_57 : decode cX5_split 57 = .ok (.imul, 1) := by decide +kernel
theorem dX5_split_58 : decode cX5_split 58 = .ok (.aload_n 0, 1) := by decide +kernel
theorem dX5_split_59 : decode cX5_split 59 = .ok (.getfield 29, 3) := by decide +kernel
theorem dX5_split_62 : decode cX5_split 62 = .ok (.aload_n 0, 1) := by decide +kernel
theorem dX5_split_63 : decode cX5_split 63 = .ok (.getfield 16, 3) := by decide +kernel
theorem dX5_split_66 : decode cX5_split 66 = .ok (.sipush 128, 3) := by decide +kernel
theorem dX5_split_69 : decode cX5_split 69 = .ok (.iload_n 2, 1) := by decide +kernel
theorem dX5_split_70 : decode cX5_split 70 = .ok (.imul, 1) := by decide +kernel
theorem dX5_split_71 : decode cX5_split 71 = .ok (.iload 4, 2) := by decide +kernel
theorem dX5_split_73 : decode cX5_split 73 = .ok (.iadd, 1) := by decide +kernel
theorem dX5_split_74 : decode cX5_split 74 = .ok (.iaload, 1) := by decide +kernel
theorem dX5_split_75 : decode cX5_split 75 = .ok (.iaload, 1) := by decide +kernel
theorem dX5_split_76 : decode cX5_split 76 = .ok (.iadd, 1) := by decide +kernel
theorem dX5_split_77 : decode cX5_split 77 = .ok (.istore_n 3, 1) := by decide +kernel
theorem dX5_split_78 : decode cX5_split 78 = .ok (.iinc 4 1, 3) := by decide +kernel
theorem dX5_split_81 : decode cX5_split 81 = .ok (.goto (-35), 3) := by decide +kernel
theorem dX5_split_84 : decode cX5_split 84 = .ok (.iload_n 3, 1) := by decide +kernel
theorem dX5_split_85 : decode cX5_split 85 = .ok (.iload_n 3, 1) := by decide +kernel
theorem dX5_split_86 : decode cX5_split 86 = .ok (.bipush 16, 2) := by decide +kernel
theorem dX5_split_88 : decode cX5_split 88 = .ok (.iushr, 1) := by decide +kernel
theorem dX5_split_89 : decode cX5_split 89 = .ok (.ixor, 1) := by decide +kernel
theorem dX5_split_90 : decode cX5_split 90 = .ok (.aload_n 0, 1) := by decide +kernel
theorem dX5_split_91 : decode cX5_split 91 = .ok (.getfield 23, 3) := by decide +kernel
theorem dX5_split_94 : decode cX5_split 94 = .ok (.arraylength, 1) := by decide +kernel
theorem dX5_split_95 : decode cX5_split 95 = .ok (.iconst 1, 1) := by decide +kernel
theorem dX5_split_96 : decode cX5_split 96 = .ok (.isub, 1) := by decide +kernel
theorem dX5_split_97 : decode cX5_split 97 = .ok (.iand, 1) := by decide +kernel
theorem dX5_split_98 : decode cX5_split 98 = .ok (.istore 4, 2) := by decide +kernel
theorem dX5_split_100 : decode cX5_split 100 = .ok (.aload_n 0, 1) := by decide +kernel
theorem dX5_split_101 : decode cX5_split 101 = .ok (.getfield 23, 3) := by decide +kernel
theorem dX5_split_104 : decode cX5_split 104 = .ok (.iload 4, 2) := by decide +kernel
theorem dX5_split_106 : decode cX5_split 106 = .ok (.iaload, 1) := by decide +kernel
theorem dX5_split_107 : decode cX5_split 107 = .ok (.istore 5, 2) := by decide +kernel
theorem dX5_split_109 : decode cX5_split 109 = .ok (.iload 5, 2) := by decide +kernel
theorem dX5_split_111 : decode cX5_split 111 = .ok (.ifCond .lt 25, 3) := by decide +kernel
theorem dX5_split_114 : decode cX5_split 114 = .ok (.aload_n 0, 1) := by decide +kernel
theorem dX5_split_115 : decode cX5_split 115 = .ok (.iload_n 2, 1) := by decide +kernel
theorem dX5_split_116 : decode cX5_split 116 = .ok (.iload 5, 2) := by decide +kernel
theorem dX5_split_118 : decode cX5_split 118 = .ok (.invokevirtual 120, 3) := by decide +kernel
theorem dX5_split_121 : decode cX5_split 121 = .ok (.ifCond .ne 15, 3) := by decide +kernel
theorem dX5_split_124 : decode cX5_split 124 = .ok (.aload_n 0, 1) := by decide +kernel
theorem dX5_split_125 : decode cX5_split 125 = .ok (.getfield 26, 3) := by decide +kernel
theorem dX5_split_128 : decode cX5_split 128 = .ok (.iload 5, 2) := by decide +kernel
theorem dX5_split_130 : decode cX5_split 130 = .ok (.iaload, 1) := by decide +kernel
theorem dX5_split_131 : decode cX5_split 131 = .ok (.istore 5, 2) := by decide +kernel
theorem dX5_split_133 : decode cX5_split 133 = .ok (.goto (-24), 3) := by decide +kernel
theorem dX5_split_136 : decode cX5_split 136 = .ok (.iload 5, 2) := by decide +kernel
theorem dX5_split_138 : decode cX5_split 138 = .ok (.ifCond .lt 19, 3) := by decide +kernel
theorem dX5_split_141 : decode cX5_split 141 = .ok (.aload_n 0, 1) := by decide +kernel
theorem dX5_split_142 : decode cX5_split 142 = .ok (.getfield 32, 3) := by decide +kernel
theorem dX5_split_145 : decode cX5_split 145 = .ok (.iload_n 2, 1) := by decide +kernel
theorem dX5_split_146 : decode cX5_split 146 = .ok (.aload_n 0, 1) := by decide +kernel
theorem dX5_split_147 : decode cX5_split 147 = .ok (.getfield 32, 3) := by decide +kernel
theorem dX5_split_150 : decode cX5_split 150 = .ok (.iload 5, 2) := by decide +kernel
theorem dX5_split_152 : decode cX5_split 152 = .ok (.iaload, 1) := by decide +kernel
theorem dX5_split_153 : decode cX5_split 153 = .ok (.iastore, 1) := by decide +kernel
theorem dX5_split_154 : decode cX5_split 154 = .ok (.goto 34, 3) := by decide +kernel
theorem dX5_split_157 : decode cX5_split 157 = .ok (.aload_n 0, 1) := by decide +kernel
theorem dX5_split_158 : decode cX5_split 158 = .ok (.getfield 32, 3) := by decide +kernel
theorem dX5_split_161 : decode cX5_split 161 = .ok (.iload_n 2, 1) := by decide +kernel
theorem dX5_split_162 : decode cX5_split 162 = .ok (.iload_n 1, 1) := by decide +kernel
theorem dX5_split_163 : decode cX5_split 163 = .ok (.iastore, 1) := by decide +kernel
theorem dX5_split_164 : decode cX5_split 164 = .ok (.iinc 1 1, 3) := by decide +kernel
theorem dX5_split_167 : decode cX5_split 167 = .ok (.aload_n 0, 1) := by decide +kernel
theorem dX5_split_168 : decode cX5_split 168 = .ok (.getfield 26, 3) := by decide +kernel
theorem dX5_split_171 : decode cX5_split 171 = .ok (.iload_n 2, 1) := by decide +kernel
theorem dX5_split_172 : decode cX5_split 172 = .ok (.aload_n 0, 1) := by decide +kernel
theorem dX5_split_173 : decode cX5_split 173 = .ok (.getfield 23, 3) := by decide +kernel
theorem dX5_split_176 : decode cX5_split 176 = .ok (.iload 4, 2) := by decide +kernel
theorem dX5_split_178 : decode cX5_split 178 = .ok (.iaload, 1) := by decide +kernel
theorem dX5_split_179 : decode cX5_split 179 = .ok (.iastore, 1) := by decide +kernel
theorem dX5_split_180 : decode cX5_split 180 = .ok (.aload_n 0, 1) := by decide +kernel
theorem dX5_split_181 : decode cX5_split 181 = .ok (.getfield 23, 3) := by decide +kernel
theorem dX5_split_184 : decode cX5_split 184 = .ok (.iload 4, 2) := by decide +kernel
theorem dX5_split_186 : decode cX5_split 186 = .ok (.iload_n 2, 1) := by decide +kernel
theorem dX5_split_187 : decode cX5_split 187 = .ok (.iastore, 1) := by decide +kernel
theorem dX5_split_188 : decode cX5_split 188 = .ok (.iinc 2 1, 3) := by decide +kernel
theorem dX5_split_191 : decode cX5_split 191 = .ok (.goto (-163), 3) := by decide +kernel
theorem dX5_split_194 : decode cX5_split 194 = .ok (.iconst 0, 1) := by decide +kernel
theorem dX5_split_195 : decode cX5_split 195 = .ok (.istore_n 2, 1) := by decide +kernel
theorem dX5_split_196 : decode cX5_split 196 = .ok (.iload_n 2, 1) := by decide +kernel
theorem dX5_split_197 : decode cX5_split 197 = .ok (.aload_n 0, 1) := by decide +kernel
theorem dX5_split_198 : decode cX5_split 198 = .ok (.getfield 56, 3) := by decide +kernel
theorem dX5_split_201 : decode cX5_split 201 = .ok (.if_icmp .ge 21, 3) := by decide +kernel
theorem dX5_split_204 : decode cX5_split 204 = .ok (.aload_n 0, 1) := by decide +kernel
theorem dX5_split_205 : decode cX5_split 205 = .ok (.getfield 29, 3) := by decide +kernel
theorem dX5_split_208 : decode cX5_split 208 = .ok (.iload_n 2, 1) := by decide +kernel
theorem dX5_split_209 : decode cX5_split 209 = .ok (.aload_n 0, 1) := by decide +kernel
theorem dX5_split_210 : decode cX5_split 210 = .ok (.getfield 32, 3) := by decide +kernel
theorem dX5_split_213 : decode cX5_split 213 = .ok (.iload_n 2, 1) := by decide +kernel
theorem dX5_split_214 : decode cX5_split 214 = .ok (.iaload, 1) := by decide +kernel
theorem dX5_split_215 : decode cX5_split 215 = .ok (.iastore, 1) := by decide +kernel
theorem dX5_split_216 : decode cX5_split 216 = .ok (.iinc 2 1, 3) := by decide +kernel
theorem dX5_split_219 : decode cX5_split 219 = .ok (.goto (-23), 3) := by decide +kernel
theorem dX5_split_222 : decode cX5_split 222 = .ok (.iload_n 1, 1) := by decide +kernel
theorem dX5_split_223 : decode cX5_split 223 = .ok (.ireturn, 1) := by decide +kernel
theorem dX5_alike_0 : decode cX5_alike 0 = .ok (.aload_n 0, 1) := by decide +kernel
theorem dX5_alike_1 : decode cX5_alike 1 = .ok (.getfield 29, 3) := by decide +kernel
theorem dX5_alike_4 : decode cX5_alike 4 = .ok (.iload_n 1, 1) := by decide +kernel
theorem dX5_alike_5 : decode cX5_alike 5 = .ok (.iaload, 1) := by decide +kernel
theorem dX5_alike_6 : decode cX5_alike 6 = .ok (.aload_n 0, 1) := by decide +kernel
theorem dX5_alike_7 : decode cX5_alike 7 = .ok (.getfield 29, 3) := by decide +kernel
theorem dX5_alike_10 : decode cX5_alike 10 = .ok (.iload_n 2, 1) := by decide +kernel
theorem dX5_alike_11 : decode cX5_alike 11 = .ok (.iaload, 1) := by decide +kernel
theorem dX5_alike_12 : decode cX5_alike 12 = .ok (.if_icmp .eq 5, 3) := by decide +kernel
theorem dX5_alike_15 : decode cX5_alike 15 = .ok (.iconst 0, 1) := by decide +kernel
theorem dX5_alike_16 : decode cX5_alike 16 = .ok (.ireturn, 1) := by decide +kernel
theorem dX5_alike_17 : decode cX5_alike 17 = .ok (.iconst 0, 1) := by decide +kernel
theorem dX5_alike_18 : decode cX5_alike 18 = .ok (.istore_n 3, 1) := by decide +kernel
theorem dX5_alike_19 : decode cX5_alike 19 = .ok (.iload_n 3, 1) := by decide +kernel
theorem dX5_alike_20 : decode cX5_alike 20 = .ok (.sipush 128, 3) := by decide +kernel
theorem dX5_alike_23 : decode cX5_alike 23 = .ok (.if_icmp .ge 48, 3) := by decide +kernel
theorem dX5_alike_26 : decode cX5_alike 26 = .ok (.aload_n 0, 1) := by decide +kernel
theorem dX5_alike_27 : decode cX5_alike 27 = .ok (.getfield 29, 3) := by decide +kernel
theorem dX5_alike_30 : decode cX5_alike 30 = .ok (.aload_n 0, 1) := by decide +kernel
theorem dX5_alike_31 : decode cX5_alike 31 = .ok (.getfield 16, 3) := by decide +kernel
theorem dX5_alike_34 : decode cX5_alike 34 = .ok (.sipush 128, 3) := by decide +kernel
theorem dX5_alike_37 : decode cX5_alike 37 = .ok (.iload_n 1, 1) := by decide +kernel
theorem dX5_alike_38 : decode cX5_alike 38 = .ok (.imul, 1) := by decide +kernel
theorem dX5_alike_39 : decode cX5_alike 39 = .ok (.iload_n 3, 1) := by decide +kernel
theorem dX5_alike_40 : decode cX5_alike 40 = .ok (.iadd, 1) := by decide +kernel
theorem dX5_alike_41 : decode cX5_alike 41 = .ok (.iaload, 1) := by decide +kernel
theorem dX5_alike_42 : decode cX5_alike 42 = .ok (.iaload, 1) := by decide +kernel
theorem dX5_alike_43 : decode cX5_alike 43 = .ok (.aload_n 0, 1) := by decide +kernel
theorem dX5_alike_44 : decode cX5_alike 44 = .ok (.getfield 29, 3) := by decide +kernel
theorem dX5_alike_47 : decode cX5_alike 47 = .ok (.aload_n 0, 1) := by decide +kernel
theorem dX5_alike_48 : decode cX5_alike 48 = .ok (.getfield 16, 3) := by decide +kernel
theorem dX5_alike_51 : decode cX5_alike 51 = .ok (.sipush 128, 3) := by decide +kernel
theorem dX5_alike_54 : decode cX5_alike 54 = .ok (.iload_n 2, 1) := by decide +kernel
theorem dX5_alike_55 : decode cX5_alike 55 = .ok (.imul, 1) := by decide +kernel
theorem dX5_alike_56 : decode cX5_alike 56 = .ok (.iload_n 3, 1) := by decide +kernel
theorem dX5_alike_57 : decode cX5_alike 57 = .ok (.iadd, 1) := by decide +kernel
theorem dX5_alike_58 : decode cX5_alike 58 = .ok (.iaload, 1) := by decide +kernel
theorem dX5_alike_59 : decode cX5_alike 59 = .ok (.iaload, 1) := by decide +kernel
theorem dX5_alike_60 : decode cX5_alike 60 = .ok (.if_icmp .eq 5, 3) := by decide +kernel
theorem dX5_alike_63 : decode cX5_alike 63 = .ok (.iconst 0, 1) := by decide +kernel
theorem dX5_alike_64 : decode cX5_alike 64 = .ok (.ireturn, 1) := by decide +kernel
theorem dX5_alike_65 : decode cX5_alike 65 = .ok (.iinc 3 1, 3) := by decide +kernel
theorem dX5_alike_68 : decode cX5_alike 68 = .ok (.goto (-49), 3) := by decide +kernel
theorem dX5_alike_71 : decode cX5_alike 71 = .ok (.iconst 1, 1) := by decide +kernel
theorem dX5_alike_72 : decode cX5_alike 72 = .ok (.ireturn, 1) := by decide +kernel
theorem dX5_number_0 : decode cX5_number 0 = .ok (.aload_n 0, 1) := by decide +kernel
theorem dX5_number_1 : decode cX5_number 1 = .ok (.iconst 0, 1) := by decide +kernel
theorem dX5_number_2 : decode cX5_number 2 = .ok (.putfield 49, 3) := by decide +kernel
theorem dX5_number_5 : decode cX5_number 5 = .ok (.iconst 0, 1) := by decide +kernel
theorem dX5_number_6 : decode cX5_number 6 = .ok (.istore_n 1, 1) := by decide +kernel
theorem dX5_number_7 : decode cX5_number 7 = .ok (.iload_n 1, 1) := by decide +kernel
theorem dX5_number_8 : decode cX5_number 8 = .ok (.aload_n 0, 1) := by decide +kernel
theorem dX5_number_9 : decode cX5_number 9 = .ok (.getfield 56, 3) := by decide +kernel
theorem dX5_number_12 : decode cX5_number 12 = .ok (.if_icmp .ge 16, 3) := by decide +kernel
theorem dX5_number_15 : decode cX5_number 15 = .ok (.aload_n 0, 1) := by decide +kernel
theorem dX5_number_16 : decode cX5_number 16 = .ok (.getfield 32, 3) := by decide +kernel
theorem dX5_number_19 : decode cX5_number 19 = .ok (.iload_n 1, 1) := by decide +kernel
theorem dX5_number_20 : decode cX5_number 20 = .ok (.iconst (-1), 1) := by decide +kernel
theorem dX5_number_21 : decode cX5_number 21 = .ok (.iastore, 1) := by decide +kernel
theorem dX5_number_22 : decode cX5_number 22 = .ok (.iinc 1 1, 3) := by decide +kernel
theorem dX5_number_25 : decode cX5_number 25 = .ok (.goto (-18), 3) := by decide +kernel
theorem dX5_number_28 : decode cX5_number 28 = .ok (.iconst 0, 1) := by decide +kernel
theorem dX5_number_29 : decode cX5_number 29 = .ok (.istore_n 1, 1) := by decide +kernel
theorem dX5_number_30 : decode cX5_number 30 = .ok (.iload_n 1, 1) := by decide +kernel
theorem dX5_number_31 : decode cX5_number 31 = .ok (.aload_n 0, 1) := by decide +kernel
theorem dX5_number_32 : decode cX5_number 32 = .ok (.getfield 56, 3) := by decide +kernel
theorem dX5_number_35 : decode cX5_number 35 = .ok (.if_icmp .ge 87, 3) := by decide +kernel
theorem dX5_number_38 : decode cX5_number 38 = .ok (.aload_n 0, 1) := by decide +kernel
theorem dX5_number_39 : decode cX5_number 39 = .ok (.getfield 35, 3) := by decide +kernel
theorem dX5_number_42 : decode cX5_number 42 = .ok (.iload_n 1, 1) := by decide +kernel
theorem dX5_number_43 : decode cX5_number 43 = .ok (.baload, 1) := by decide +kernel
theorem dX5_number_44 : decode cX5_number 44 = .ok (.ifCond .eq 72, 3) := by decide +kernel
theorem dX5_number_47 : decode cX5_number 47 = .ok (.aload_n 0, 1) := by decide +kernel
theorem dX5_number_48 : decode cX5_number 48 = .ok (.getfield 32, 3) := by decide +kernel
theorem dX5_number_51 : decode cX5_number 51 = .ok (.aload_n 0, 1) := by decide +kernel
theorem dX5_number_52 : decode cX5_number 52 = .ok (.getfield 29, 3) := by decide +kernel
theorem dX5_number_55 : decode cX5_number 55 = .ok (.iload_n 1, 1) := by decide +kernel
theorem dX5_number_56 : decode cX5_number 56 = .ok (.iaload, 1) := by decide +kernel
theorem dX5_number_57 : decode cX5_number 57 = .ok (.iaload, 1) := by decide +kernel
theorem dX5_number_58 : decode cX5_number 58 = .ok (.ifCond .lt 6, 3) := by decide +kernel
theorem dX5_number_61 : decode cX5_number 61 = .ok (.goto 55, 3) := by decide +kernel
theorem dX5_number_64 : decode cX5_number 64 = .ok (.aload_n 0, 1) := by decide +kernel
theorem dX5_number_65 : decode cX5_number 65 = .ok (.getfield 49, 3) := by decide +kernel
theorem dX5_number_68 : decode cX5_number 68 = .ok (.sipush 200, 3) := by decide +kernel
theorem dX5_number_71 : decode cX5_number 71 = .ok (.if_icmp .ne 5, 3) := by decide +kernel
theorem dX5_number_74 : decode cX5_number 74 = .ok (.iconst 0, 1) := by decide +kernel
theorem dX5_number_75 : decode cX5_number 75 = .ok (.ireturn, 1) := by decide +kernel
theorem dX5_number_76 : decode cX5_number 76 = .ok (.aload_n 0, 1) := by decide +kernel
theorem dX5_number_77 : decode cX5_number 77 = .ok (.getfield 32, 3) := by decide +kernel
theorem dX5_number_80 : decode cX5_number 80 = .ok (.aload_n 0, 1) := by decide +kernel
theorem dX5_number_81 : decode cX5_number 81 = .ok (.getfield 29, 3) := by decide +kernel
theorem dX5_number_84 : decode cX5_number 84 = .ok (.iload_n 1, 1) := by decide +kernel
theorem dX5_number_85 : decode cX5_number 85 = .ok (.iaload, 1) := by decide +kernel
theorem dX5_number_86 : decode cX5_number 86 = .ok (.aload_n 0, 1) := by decide +kernel
theorem dX5_number_87 : decode cX5_number 87 = .ok (.getfield 49, 3) := by decide +kernel
theorem dX5_number_90 : decode cX5_number 90 = .ok (.iastore, 1) := by decide +kernel
theorem dX5_number_91 : decode cX5_number 91 = .ok (.aload_n 0, 1) := by decide +kernel
theorem dX5_number_92 : decode cX5_number 92 = .ok (.getfield 42, 3) := by decide +kernel
theorem dX5_number_95 : decode cX5_number 95 = .ok (.aload_n 0, 1) := by decide +kernel
theorem dX5_number_96 : decode cX5_number 96 = .ok (.getfield 49, 3) := by decide +kernel
theorem dX5_number_99 : decode cX5_number 99 = .ok (.aload_n 0, 1) := by decide +kernel
theorem dX5_number_100 : decode cX5_number 100 = .ok (.getfield 20, 3) := by decide +kernel
theorem dX5_number_103 : decode cX5_number 103 = .ok (.iload_n 1, 1) := by decide +kernel
theorem dX5_number_104 : decode cX5_number 104 = .ok (.iaload, 1) := by decide +kernel
theorem dX5_number_105 : decode cX5_number 105 = .ok (.iastore, 1) := by decide +kernel
theorem dX5_number_106 : decode cX5_number 106 = .ok (.aload_n 0, 1) := by decide +kernel
theorem dX5_number_107 : decode cX5_number 107 = .ok (.dup, 1) := by decide +kernel
theorem dX5_number_108 : decode cX5_number 108 = .ok (.getfield 49, 3) := by decide +kernel
theorem dX5_number_111 : decode cX5_number 111 = .ok (.iconst 1, 1) := by decide +kernel
theorem dX5_number_112 : decode cX5_number 112 = .ok (.iadd, 1) := by decide +kernel
theorem dX5_number_113 : decode cX5_number 113 = .ok (.putfield 49, 3) := by decide +kernel
theorem dX5_number_116 : decode cX5_number 116 = .ok (.iinc 1 1, 3) := by decide +kernel
theorem dX5_number_119 : decode cX5_number 119 = .ok (.goto (-89), 3) := by decide +kernel
theorem dX5_number_122 : decode cX5_number 122 = .ok (.iconst 0, 1) := by decide +kernel
theorem dX5_number_123 : decode cX5_number 123 = .ok (.istore_n 1, 1) := by decide +kernel
theorem dX5_number_124 : decode cX5_number 124 = .ok (.iload_n 1, 1) := by decide +kernel
theorem dX5_number_125 : decode cX5_number 125 = .ok (.aload_n 0, 1) := by decide +kernel
theorem dX5_number_126 : decode cX5_number 126 = .ok (.getfield 56, 3) := by decide +kernel
theorem dX5_number_129 : decode cX5_number 129 = .ok (.if_icmp .ge 100, 3) := by decide +kernel
theorem dX5_number_132 : decode cX5_number 132 = .ok (.aload_n 0, 1) := by decide +kernel
theorem dX5_number_133 : decode cX5_number 133 = .ok (.getfield 35, 3) := by decide +kernel
theorem dX5_number_136 : decode cX5_number 136 = .ok (.iload_n 1, 1) := by decide +kernel
theorem dX5_number_137 : decode cX5_number 137 = .ok (.baload, 1) := by decide +kernel
theorem dX5_number_138 : decode cX5_number 138 = .ok (.ifCond .ne 6, 3) := by decide +kernel
theorem dX5_number_141 : decode cX5_number 141 = .ok (.goto 82, 3) := by decide +kernel
theorem dX5_number_144 : decode cX5_number 144 = .ok (.sipush 128, 3) := by decide +kernel
theorem dX5_number_147 : decode cX5_number 147 = .ok (.aload_n 0, 1) := by decide +kernel
theorem dX5_number_148 : decode cX5_number 148 = .ok (.getfield 32, 3) := by decide +kernel
theorem dX5_number_151 : decode cX5_number 151 = .ok (.aload_n 0, 1) := by decide +kernel
theorem dX5_number_152 : decode cX5_number 152 = .ok (.getfield 29, 3) := by decide +kernel
theorem dX5_number_155 : decode cX5_number 155 = .ok (.iload_n 1, 1) := by decide +kernel
theorem dX5_number_156 : decode cX5_number 156 = .ok (.iaload, 1) := by decide +kernel
theorem dX5_number_157 : decode cX5_number 157 = .ok (.iaload, 1) := by decide +kernel
theorem dX5_number_158 : decode cX5_number 158 = .ok (.imul, 1) := by decide +kernel
theorem dX5_number_159 : decode cX5_number 159 = .ok (.istore_n 2, 1) := by decide +kernel
theorem dX5_number_160 : decode cX5_number 160 = .ok (.iconst 0, 1) := by decide +kernel
theorem dX5_number_161 : decode cX5_number 161 = .ok (.istore_n 3, 1) := by decide +kernel
theorem dX5_number_162 : decode cX5_number 162 = .ok (.iload_n 3, 1) := by decide +kernel
theorem dX5_number_163 : decode cX5_number 163 = .ok (.sipush 128, 3) := by decide +kernel
theorem dX5_number_166 : decode cX5_number 166 = .ok (.if_icmp .ge 57, 3) := by decide +kernel
theorem dX5_number_169 : decode cX5_number 169 = .ok (.aload_n 0, 1) := by decide +kernel
theorem dX5_number_170 : decode cX5_number 170 = .ok (.getfield 16, 3) := by decide +kernel
theorem dX5_number_173 : decode cX5_number 173 = .ok (.sipush 128, 3) := by decide +kernel
theorem dX5_number_176 : decode cX5_number 176 = .ok (.iload_n 1, 1) := by decide +kernel
theorem dX5_number_177 : decode cX5_number 177 = .ok (.imul, 1) := by decide +kernel
theorem dX5_number_178 : decode cX5_number 178 = .ok (.iload_n 3, 1) := by decide +kernel
theorem dX5_number_179 : decode cX5_number 179 = .ok (.iadd, 1) := by decide +kernel
theorem dX5_number_180 : decode cX5_number 180 = .ok (.iaload, 1) := by decide +kernel
theorem dX5_number_181 : decode cX5_number 181 = .ok (.istore 4, 2) := by decide +kernel
theorem dX5_number_183 : decode cX5_number 183 = .ok (.aload_n 0, 1) := by decide +kernel
theorem dX5_number_184 : decode cX5_number 184 = .ok (.getfield 39, 3) := by decide +kernel
theorem dX5_number_187 : decode cX5_number 187 = .ok (.iload_n 2, 1) := by decide +kernel
theorem dX5_number_188 : decode cX5_number 188 = .ok (.iload_n 3, 1) := by decide +kernel
theorem dX5_number_189 : decode cX5_number 189 = .ok (.iadd, 1) := by decide +kernel
theorem dX5_number_190 : decode cX5_number 190 = .ok (.aload_n 0, 1) := by decide +kernel
theorem dX5_number_191 : decode cX5_number 191 = .ok (.getfield 35, 3) := by decide +kernel
theorem dX5_number_194 : decode cX5_number 194 = .ok (.iload 4, 2) := by decide +kernel
theorem dX5_number_196 : decode cX5_number 196 = .ok (.baload, 1) := by decide +kernel
theorem dX5_number_197 : decode cX5_number 197 = .ok (.ifCond .eq 18, 3) := by decide +kernel
theorem dX5_number_200 : decode cX5_number 200 = .ok (.aload_n 0, 1) := by decide +kernel
theorem dX5_number_201 : decode cX5_number 201 = .ok (.getfield 32, 3) := by decide +kernel
theorem dX5_number_204 : decode cX5_number 204 = .ok (.aload_n 0, 1) := by decide +kernel
theorem dX5_number_205 : decode cX5_number 205 = .ok (.getfield 29, 3) := by decide +kernel
theorem dX5_number_208 : decode cX5_number 208 = .ok (.iload 4, 2) := by decide +kernel
theorem dX5_number_210 : decode cX5_number 210 = .ok (.iaload, 1) := by decide +kernel
theorem dX5_number_211 : decode cX5_number 211 = .ok (.iaload, 1) := by decide +kernel
theorem dX5_number_212 : decode cX5_number 212 = .ok (.goto 4, 3) := by decide +kernel
theorem dX5_number_215 : decode cX5_number 215 = .ok (.iconst (-1), 1) := by decide +kernel
theorem dX5_number_216 : decode cX5_number 216 = .ok (.iastore, 1) := by decide +kernel
theorem dX5_number_217 : decode cX5_number 217 = .ok (.iinc 3 1, 3) := by decide +kernel
theorem dX5_number_220 : decode cX5_number 220 = .ok (.goto (-58), 3) := by decide +kernel
theorem dX5_number_223 : decode cX5_number 223 = .ok (.iinc 1 1, 3) := by decide +kernel
theorem dX5_number_226 : decode cX5_number 226 = .ok (.goto (-102), 3) := by decide +kernel
theorem dX5_number_229 : decode cX5_number 229 = .ok (.aload_n 0, 1) := by decide +kernel
theorem dX5_number_230 : decode cX5_number 230 = .ok (.aload_n 0, 1) := by decide +kernel
theorem dX5_number_231 : decode cX5_number 231 = .ok (.getfield 35, 3) := by decide +kernel
theorem dX5_number_234 : decode cX5_number 234 = .ok (.iconst 0, 1) := by decide +kernel
theorem dX5_number_235 : decode cX5_number 235 = .ok (.baload, 1) := by decide +kernel
theorem dX5_number_236 : decode cX5_number 236 = .ok (.ifCond .eq 17, 3) := by decide +kernel
theorem dX5_number_239 : decode cX5_number 239 = .ok (.aload_n 0, 1) := by decide +kernel
theorem dX5_number_240 : decode cX5_number 240 = .ok (.getfield 32, 3) := by decide +kernel
theorem dX5_number_243 : decode cX5_number 243 = .ok (.aload_n 0, 1) := by decide +kernel
theorem dX5_number_244 : decode cX5_number 244 = .ok (.getfield 29, 3) := by decide +kernel
theorem dX5_number_247 : decode cX5_number 247 = .ok (.iconst 0, 1) := by decide +kernel
theorem dX5_number_248 : decode cX5_number 248 = .ok (.iaload, 1) := by decide +kernel
theorem dX5_number_249 : decode cX5_number 249 = .ok (.iaload, 1) := by decide +kernel
theorem dX5_number_250 : decode cX5_number 250 = .ok (.goto 4, 3) := by decide +kernel
theorem dX5_number_253 : decode cX5_number 253 = .ok (.iconst (-1), 1) := by decide +kernel
theorem dX5_number_254 : decode cX5_number 254 = .ok (.putfield 53, 3) := by decide +kernel
theorem dX5_number_257 : decode cX5_number 257 = .ok (.iconst 1, 1) := by decide +kernel
theorem dX5_number_258 : decode cX5_number 258 = .ok (.ireturn, 1) := by decide +kernel
theorem dX5_states_0 : decode cX5_states 0 = .ok (.aload_n 0, 1) := by decide +kernel
theorem dX5_states_1 : decode cX5_states 1 = .ok (.getfield 49, 3) := by decide +kernel
theorem dX5_states_4 : decode cX5_states 4 = .ok (.ireturn, 1) := by decide +kernel
theorem dX5_start_0 : decode cX5_start 0 = .ok (.aload_n 0, 1) := by decide +kernel
theorem dX5_start_1 : decode cX5_start 1 = .ok (.getfield 53, 3) := by decide +kernel
theorem dX5_start_4 : decode cX5_start 4 = .ok (.ireturn, 1) := by decide +kernel
theorem dX5_move_0 : decode cX5_move 0 = .ok (.aload_n 0, 1) := by decide +kernel
theorem dX5_move_1 : decode cX5_move 1 = .ok (.getfield 39, 3) := by decide +kernel
theorem dX5_move_4 : decode cX5_move 4 = .ok (.sipush 128, 3) := by decide +kernel
theorem dX5_move_7 : decode cX5_move 7 = .ok (.iload_n 1, 1) := by decide +kernel
theorem dX5_move_8 : decode cX5_move 8 = .ok (.imul, 1) := by decide +kernel
theorem dX5_move_9 : decode cX5_move 9 = .ok (.iload_n 2, 1) := by decide +kernel
theorem dX5_move_10 : decode cX5_move 10 = .ok (.iadd, 1) := by decide +kernel
theorem dX5_move_11 : decode cX5_move 11 = .ok (.iaload, 1) := by decide +kernel
theorem dX5_move_12 : decode cX5_move 12 = .ok (.ireturn, 1) := by decide +kernel
theorem dX5_tells_0 : decode cX5_tells 0 = .ok (.aload_n 0, 1) := by decide +kernel
theorem dX5_tells_1 : decode cX5_tells 1 = .ok (.getfield 42, 3) := by decide +kernel
theorem dX5_tells_4 : decode cX5_tells 4 = .ok (.iload_n 1, 1) := by decide +kernel
theorem dX5_tells_5 : decode cX5_tells 5 = .ok (.iaload, 1) := by decide +kernel
theorem dX5_tells_6 : decode cX5_tells 6 = .ok (.ireturn, 1) := by decide +kernel
