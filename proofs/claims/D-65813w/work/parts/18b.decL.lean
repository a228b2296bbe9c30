set_option maxRecDepth 100000
theorem dX0_feed_0 : decode cX0_feed 0 = .ok (.aload 6, 2) := by decide +kernel
theorem dX0_feed_2 : decode cX0_feed 2 = .ok (.iconst 0, 1) := by decide +kernel
theorem dX0_feed_3 : decode cX0_feed 3 = .ok (.aload_n 0, 1) := by decide +kernel
theorem dX0_feed_4 : decode cX0_feed 4 = .ok (.iload_n 1, 1) := by decide +kernel
theorem dX0_feed_5 : decode cX0_feed 5 = .ok (.iload_n 2, 1) := by decide +kernel
theorem dX0_feed_6 : decode cX0_feed 6 = .ok (.iload_n 3, 1) := by decide +kernel
theorem dX0_feed_7 : decode cX0_feed 7 = .ok (.iload 4, 2) := by decide +kernel
theorem dX0_feed_9 : decode cX0_feed 9 = .ok (.iload 5, 2) := by decide +kernel
theorem dX0_feed_11 : decode cX0_feed 11 = .ok (.invokevirtual 7, 3) := by decide +kernel
theorem dX0_feed_14 : decode cX0_feed 14 = .ok (.i2l, 1) := by decide +kernel
theorem dX0_feed_15 : decode cX0_feed 15 = .ok (.lastore, 1) := by decide +kernel
theorem dX0_feed_16 : decode cX0_feed 16 = .ok (.goto 7, 3) := by decide +kernel
theorem dX0_feed_19 : decode cX0_feed 19 = .ok (.astore 7, 2) := by decide +kernel
theorem dX0_feed_21 : decode cX0_feed 21 = .ok (.iconst 1, 1) := by decide +kernel
theorem dX0_feed_22 : decode cX0_feed 22 = .ok (.ireturn, 1) := by decide +kernel
theorem dX0_feed_23 : decode cX0_feed 23 = .ok (.iconst 0, 1) := by decide +kernel
theorem dX0_feed_24 : decode cX0_feed 24 = .ok (.ireturn, 1) := by decide +kernel
theorem dX0_end_0 : decode cX0_end 0 = .ok (.aload_n 2, 1) := by decide +kernel
theorem dX0_end_1 : decode cX0_end 1 = .ok (.iconst 0, 1) := by decide +kernel
theorem dX0_end_2 : decode cX0_end 2 = .ok (.aload_n 0, 1) := by decide +kernel
theorem dX0_end_3 : decode cX0_end 3 = .ok (.iload_n 1, 1) := by decide +kernel
theorem dX0_end_4 : decode cX0_end 4 = .ok (.invokevirtual 15, 3) := by decide +kernel
theorem dX0_end_7 : decode cX0_end 7 = .ok (.i2l, 1) := by decide +kernel
theorem dX0_end_8 : decode cX0_end 8 = .ok (.lastore, 1) := by decide +kernel
theorem dX0_end_9 : decode cX0_end 9 = .ok (.goto 6, 3) := by decide +kernel
theorem dX0_end_12 : decode cX0_end 12 = .ok (.astore_n 3, 1) := by decide +kernel
theorem dX0_end_13 : decode cX0_end 13 = .ok (.iconst 1, 1) := by decide +kernel
theorem dX0_end_14 : decode cX0_end 14 = .ok (.ireturn, 1) := by decide +kernel
theorem dX0_end_15 : decode cX0_end 15 = .ok (.iconst 0, 1) := by decide +kernel
theorem dX0_end_16 : decode cX0_end 16 = .ok (.ireturn, 1) := by decide +kernel
theorem dX0_set_0 : decode cX0_set 0 = .ok (.aload_n 2, 1) := by decide +kernel
theorem dX0_set_1 : decode cX0_set 1 = .ok (.iconst 0, 1) := by decide +kernel
theorem dX0_set_2 : decode cX0_set 2 = .ok (.aload_n 0, 1) := by decide +kernel
theorem dX0_set_3 : decode cX0_set 3 = .ok (.iload_n 1, 1) := by decide +kernel
theorem dX0_set_4 : decode cX0_set 4 = .ok (.invokevirtual 21, 3) := by decide +kernel
theorem dX0_set_7 : decode cX0_set 7 = .ok (.i2l, 1) := by decide +kernel
theorem dX0_set_8 : decode cX0_set 8 = .ok (.lastore, 1) := by decide +kernel
theorem dX0_set_9 : decode cX0_set 9 = .ok (.goto 12, 3) := by decide +kernel
theorem dX0_set_12 : decode cX0_set 12 = .ok (.astore_n 3, 1) := by decide +kernel
theorem dX0_set_13 : decode cX0_set 13 = .ok (.iconst 1, 1) := by decide +kernel
theorem dX0_set_14 : decode cX0_set 14 = .ok (.ireturn, 1) := by decide +kernel
theorem dX0_set_15 : decode cX0_set 15 = .ok (.astore_n 3, 1) := by decide +kernel
theorem dX0_set_16 : decode cX0_set 16 = .ok (.iconst 2, 1) := by decide +kernel
theorem dX0_set_17 : decode cX0_set 17 = .ok (.ireturn, 1) := by decide +kernel
theorem dX0_set_18 : decode cX0_set 18 = .ok (.astore_n 3, 1) := by decide +kernel
theorem dX0_set_19 : decode cX0_set 19 = .ok (.iconst 3, 1) := by decide +kernel
theorem dX0_set_20 : decode cX0_set 20 = .ok (.ireturn, 1) := by decide +kernel
theorem dX0_set_21 : decode cX0_set 21 = .ok (.iconst 0, 1) := by decide +kernel
theorem dX0_set_22 : decode cX0_set 22 = .ok (.ireturn, 1) := by decide +kernel
theorem dX0_empty_0 : decode cX0_empty 0 = .ok (.aload_n 2, 1) := by decide +kernel
theorem dX0_empty_1 : decode cX0_empty 1 = .ok (.iconst 0, 1) := by decide +kernel
theorem dX0_empty_2 : decode cX0_empty 2 = .ok (.aload_n 0, 1) := by decide +kernel
theorem dX0_empty_3 : decode cX0_empty 3 = .ok (.iload_n 1, 1) := by decide +kernel
theorem dX0_empty_4 : decode cX0_empty 4 = .ok (.invokevirtual 26, 3) := by decide +kernel
theorem dX0_empty_7 : decode cX0_empty 7 = .ok (.ifCond .eq 7, 3) := by decide +kernel
theorem dX0_empty_10 : decode cX0_empty 10 = .ok (.lconst 1, 1) := by decide +kernel
theorem dX0_empty_11 : decode cX0_empty 11 = .ok (.goto 4, 3) := by decide +kernel
theorem dX0_empty_14 : decode cX0_empty 14 = .ok (.lconst 0, 1) := by decide +kernel
theorem dX0_empty_15 : decode cX0_empty 15 = .ok (.lastore, 1) := by decide +kernel
theorem dX0_empty_16 : decode cX0_empty 16 = .ok (.goto 6, 3) := by decide +kernel
theorem dX0_empty_19 : decode cX0_empty 19 = .ok (.astore_n 3, 1) := by decide +kernel
theorem dX0_empty_20 : decode cX0_empty 20 = .ok (.iconst 1, 1) := by decide +kernel
theorem dX0_empty_21 : decode cX0_empty 21 = .ok (.ireturn, 1) := by decide +kernel
theorem dX0_empty_22 : decode cX0_empty 22 = .ok (.iconst 0, 1) := by decide +kernel
theorem dX0_empty_23 : decode cX0_empty 23 = .ok (.ireturn, 1) := by decide +kernel
theorem dX0_fits_0 : decode cX0_fits 0 = .ok (.aload_n 2, 1) := by decide +kernel
theorem dX0_fits_1 : decode cX0_fits 1 = .ok (.iconst 0, 1) := by decide +kernel
theorem dX0_fits_2 : decode cX0_fits 2 = .ok (.aload_n 0, 1) := by decide +kernel
theorem dX0_fits_3 : decode cX0_fits 3 = .ok (.iload_n 1, 1) := by decide +kernel
theorem dX0_fits_4 : decode cX0_fits 4 = .ok (.invokevirtual 30, 3) := by decide +kernel
theorem dX0_fits_7 : decode cX0_fits 7 = .ok (.ifCond .eq 7, 3) := by decide +kernel
theorem dX0_fits_10 : decode cX0_fits 10 = .ok (.lconst 1, 1) := by decide +kernel
theorem dX0_fits_11 : decode cX0_fits 11 = .ok (.goto 4, 3) := by decide +kernel
theorem dX0_fits_14 : decode cX0_fits 14 = .ok (.lconst 0, 1) := by decide +kernel
theorem dX0_fits_15 : decode cX0_fits 15 = .ok (.lastore, 1) := by decide +kernel
theorem dX0_fits_16 : decode cX0_fits 16 = .ok (.goto 6, 3) := by decide +kernel
theorem dX0_fits_19 : decode cX0_fits 19 = .ok (.astore_n 3, 1) := by decide +kernel
theorem dX0_fits_20 : decode cX0_fits 20 = .ok (.iconst 1, 1) := by decide +kernel
theorem dX0_fits_21 : decode cX0_fits 21 = .ok (.ireturn, 1) := by decide +kernel
theorem dX0_fits_22 : decode cX0_fits 22 = .ok (.iconst 0, 1) := by decide +kernel
theorem dX0_fits_23 : decode cX0_fits 23 = .ok (.ireturn, 1) := by decide +kernel
theorem dX0_first_0 : decode cX0_first 0 = .ok (.aload_n 2, 1) := by decide +kernel
theorem dX0_first_1 : decode cX0_first 1 = .ok (.iconst 0, 1) := by decide +kernel
theorem dX0_first_2 : decode cX0_first 2 = .ok (.aload_n 0, 1) := by decide +kernel
theorem dX0_first_3 : decode cX0_first 3 = .ok (.iload_n 1, 1) := by decide +kernel
theorem dX0_first_4 : decode cX0_first 4 = .ok (.invokevirtual 33, 3) := by decide +kernel
theorem dX0_first_7 : decode cX0_first 7 = .ok (.i2l, 1) := by decide +kernel
theorem dX0_first_8 : decode cX0_first 8 = .ok (.lastore, 1) := by decide +kernel
theorem dX0_first_9 : decode cX0_first 9 = .ok (.goto 6, 3) := by decide +kernel
theorem dX0_first_12 : decode cX0_first 12 = .ok (.astore_n 3, 1) := by decide +kernel
theorem dX0_first_13 : decode cX0_first 13 = .ok (.iconst 1, 1) := by decide +kernel
theorem dX0_first_14 : decode cX0_first 14 = .ok (.ireturn, 1) := by decide +kernel
theorem dX0_first_15 : decode cX0_first 15 = .ok (.iconst 0, 1) := by decide +kernel
theorem dX0_first_16 : decode cX0_first 16 = .ok (.ireturn, 1) := by decide +kernel
theorem dX0_octet_0 : decode cX0_octet 0 = .ok (.aload_n 2, 1) := by decide +kernel
theorem dX0_octet_1 : decode cX0_octet 1 = .ok (.iconst 0, 1) := by decide +kernel
theorem dX0_octet_2 : decode cX0_octet 2 = .ok (.aload_n 0, 1) := by decide +kernel
theorem dX0_octet_3 : decode cX0_octet 3 = .ok (.iload_n 1, 1) := by decide +kernel
theorem dX0_octet_4 : decode cX0_octet 4 = .ok (.invokevirtual 36, 3) := by decide +kernel
theorem dX0_octet_7 : decode cX0_octet 7 = .ok (.i2l, 1) := by decide +kernel
theorem dX0_octet_8 : decode cX0_octet 8 = .ok (.lastore, 1) := by decide +kernel
theorem dX0_octet_9 : decode cX0_octet 9 = .ok (.goto 6, 3) := by decide +kernel
theorem dX0_octet_12 : decode cX0_octet 12 = .ok (.astore_n 3, 1) := by decide +kernel
theorem dX0_octet_13 : decode cX0_octet 13 = .ok (.iconst 1, 1) := by decide +kernel
theorem dX0_octet_14 : decode cX0_octet 14 = .ok (.ireturn, 1) := by decide +kernel
theorem dX0_octet_15 : decode cX0_octet 15 = .ok (.iconst 0, 1) := by decide +kernel
theorem dX0_octet_16 : decode cX0_octet 16 = .ok (.ireturn, 1) := by decide +kernel
theorem dX0_count_0 : decode cX0_count 0 = .ok (.aload_n 3, 1) := by decide +kernel
theorem dX0_count_1 : decode cX0_count 1 = .ok (.iconst 0, 1) := by decide +kernel
theorem dX0_count_2 : decode cX0_count 2 = .ok (.aload_n 0, 1) := by decide +kernel
theorem dX0_count_3 : decode cX0_count 3 = .ok (.iload_n 1, 1) := by decide +kernel
theorem dX0_count_4 : decode cX0_count 4 = .ok (.iload_n 2, 1) := by decide +kernel
theorem dX0_count_5 : decode cX0_count 5 = .ok (.invokevirtual 41, 3) := by decide +kernel
theorem dX0_count_8 : decode cX0_count 8 = .ok (.lastore, 1) := by decide +kernel
theorem dX0_count_9 : decode cX0_count 9 = .ok (.goto 7, 3) := by decide +kernel
theorem dX0_count_12 : decode cX0_count 12 = .ok (.astore 4, 2) := by decide +kernel
theorem dX0_count_14 : decode cX0_count 14 = .ok (.iconst 1, 1) := by decide +kernel
theorem dX0_count_15 : decode cX0_count 15 = .ok (.ireturn, 1) := by decide +kernel
theorem dX0_count_16 : decode cX0_count 16 = .ok (.iconst 0, 1) := by decide +kernel
theorem dX0_count_17 : decode cX0_count 17 = .ok (.ireturn, 1) := by decide +kernel
theorem dL_law_0 : decode cL_law 0 = .ok (.new 8, 3) := by decide +kernel
theorem dL_law_3 : decode cL_law 3 = .ok (.dup, 1) := by decide +kernel
theorem dL_law_4 : decode cL_law 4 = .ok (.invokespecial 45, 3) := by decide +kernel
theorem dL_law_7 : decode cL_law 7 = .ok (.astore_n 1, 1) := by decide +kernel
theorem dL_law_8 : decode cL_law 8 = .ok (.new 46, 3) := by decide +kernel
theorem dL_law_11 : decode cL_law 11 = .ok (.dup, 1) := by decide +kernel
theorem dL_law_12 : decode cL_law 12 = .ok (.invokespecial 48, 3) := by decide +kernel
theorem dL_law_15 : decode cL_law 15 = .ok (.astore_n 2, 1) := by decide +kernel
theorem dL_law_16 : decode cL_law 16 = .ok (.iconst 1, 1) := by decide +kernel
theorem dL_law_17 : decode cL_law 17 = .ok (.newarray .long, 2) := by decide +kernel
theorem dL_law_19 : decode cL_law 19 = .ok (.astore_n 3, 1) := by decide +kernel
theorem dL_law_20 : decode cL_law 20 = .ok (.iconst 0, 1) := by decide +kernel
theorem dL_law_21 : decode cL_law 21 = .ok (.istore 4, 2) := by decide +kernel
theorem dL_law_23 : decode cL_law 23 = .ok (.iload 4, 2) := by decide +kernel
theorem dL_law_25 : decode cL_law 25 = .ok (.aload_n 0, 1) := by decide +kernel
theorem dL_law_26 : decode cL_law 26 = .ok (.arraylength, 1) := by decide +kernel
theorem dL_law_27 : decode cL_law 27 = .ok (.bipush 6, 2) := by decide +kernel
theorem dL_law_29 : decode cL_law 29 = .ok (.isub, 1) := by decide +kernel
theorem dL_law_30 : decode cL_law 30 = .ok (.if_icmp .gt 602, 3) := by decide +kernel
theorem dL_law_33 : decode cL_law 33 = .ok (.aload_n 0, 1) := by decide +kernel
theorem dL_law_34 : decode cL_law 34 = .ok (.iload 4, 2) := by decide +kernel
theorem dL_law_36 : decode cL_law 36 = .ok (.iaload, 1) := by decide +kernel
theorem dL_law_37 : decode cL_law 37 = .ok (.bipush 15, 2) := by decide +kernel
theorem dL_law_39 : decode cL_law 39 = .ok (.iand, 1) := by decide +kernel
theorem dL_law_40 : decode cL_law 40 = .ok (.tableswitch 586 0 8 #[52, 156, 212, 268, 331, 394, 450, 506, 573], 52) := by decide +kernel
theorem dL_law_92 : decode cL_law 92 = .ok (.aload_n 1, 1) := by decide +kernel
theorem dL_law_93 : decode cL_law 93 = .ok (.aload_n 0, 1) := by decide +kernel
theorem dL_law_94 : decode cL_law 94 = .ok (.iload 4, 2) := by decide +kernel
theorem dL_law_96 : decode cL_law 96 = .ok (.iconst 1, 1) := by decide +kernel
theorem dL_law_97 : decode cL_law 97 = .ok (.iadd, 1) := by decide +kernel
theorem dL_law_98 : decode cL_law 98 = .ok (.iaload, 1) := by decide +kernel
theorem dL_law_99 : decode cL_law 99 = .ok (.aload_n 0, 1) := by decide +kernel
theorem dL_law_100 : decode cL_law 100 = .ok (.iload 4, 2) := by decide +kernel
theorem dL_law_102 : decode cL_law 102 = .ok (.iconst 2, 1) := by decide +kernel
theorem dL_law_103 : decode cL_law 103 = .ok (.iadd, 1) := by decide +kernel
theorem dL_law_104 : decode cL_law 104 = .ok (.iaload, 1) := by decide +kernel
theorem dL_law_105 : decode cL_law 105 = .ok (.aload_n 0, 1) := by decide +kernel
theorem dL_law_106 : decode cL_law 106 = .ok (.iload 4, 2) := by decide +kernel
theorem dL_law_108 : decode cL_law 108 = .ok (.iconst 3, 1) := by decide +kernel
theorem dL_law_109 : decode cL_law 109 = .ok (.iadd, 1) := by decide +kernel
theorem dL_law_110 : decode cL_law 110 = .ok (.iaload, 1) := by decide +kernel
theorem dL_law_111 : decode cL_law 111 = .ok (.aload_n 0, 1) := by decide +kernel
theorem dL_law_112 : decode cL_law 112 = .ok (.iload 4, 2) := by decide +kernel
theorem dL_law_114 : decode cL_law 114 = .ok (.iconst 4, 1) := by decide +kernel
theorem dL_law_115 : decode cL_law 115 = .ok (.iadd, 1) := by decide +kernel
theorem dL_law_116 : decode cL_law 116 = .ok (.iaload, 1) := by decide +kernel
theorem dL_law_117 : decode cL_law 117 = .ok (.aload_n 0, 1) := by decide +kernel
theorem dL_law_118 : decode cL_law 118 = .ok (.iload 4, 2) := by decide +kernel
theorem dL_law_120 : decode cL_law 120 = .ok (.iconst 5, 1) := by decide +kernel
theorem dL_law_121 : decode cL_law 121 = .ok (.iadd, 1) := by decide +kernel
theorem dL_law_122 : decode cL_law 122 = .ok (.iaload, 1) := by decide +kernel
theorem dL_law_123 : decode cL_law 123 = .ok (.aload_n 3, 1) := by decide +kernel
theorem dL_law_124 : decode cL_law 124 = .ok (.invokestatic 49, 3) := by decide +kernel
theorem dL_law_127 : decode cL_law 127 = .ok (.istore 5, 2) := by decide +kernel
theorem dL_law_129 : decode cL_law 129 = .ok (.aload_n 2, 1) := by decide +kernel
theorem dL_law_130 : decode cL_law 130 = .ok (.aload_n 0, 1) := by decide +kernel
theorem dL_law_131 : decode cL_law 131 = .ok (.iload 4, 2) := by decide +kernel
theorem dL_law_133 : decode cL_law 133 = .ok (.iconst 1, 1) := by decide +kernel
theorem dL_law_134 : decode cL_law 134 = .ok (.iadd, 1) := by decide +kernel
theorem dL_law_135 : decode cL_law 135 = .ok (.iaload, 1) := by decide +kernel
theorem dL_law_136 : decode cL_law 136 = .ok (.aload_n 0, 1) := by decide +kernel
theorem dL_law_137 : decode cL_law 137 = .ok (.iload 4, 2) := by decide +kernel
theorem dL_law_139 : decode cL_law 139 = .ok (.iconst 2, 1) := by decide +kernel
theorem dL_law_140 : decode cL_law 140 = .ok (.iadd, 1) := by decide +kernel
theorem dL_law_141 : decode cL_law 141 = .ok (.iaload, 1) := by decide +kernel
theorem dL_law_142 : decode cL_law 142 = .ok (.aload_n 0, 1) := by decide +kernel
theorem dL_law_143 : decode cL_law 143 = .ok (.iload 4, 2) := by decide +kernel
theorem dL_law_145 : decode cL_law 145 = .ok (.iconst 3, 1) := by decide +kernel
theorem dL_law_146 : decode cL_law 146 = .ok (.iadd, 1) := by decide +kernel
theorem dL_law_147 : decode cL_law 147 = .ok (.iaload, 1) := by decide +kernel
theorem dL_law_148 : decode cL_law 148 = .ok (.aload_n 0, 1) := by decide +kernel
theorem dL_law_149 : decode cL_law 149 = .ok (.iload 4, 2) := by decide +kernel
theorem dL_law_151 : decode cL_law 151 = .ok (.iconst 4, 1) := by decide +kernel
theorem dL_law_152 : decode cL_law 152 = .ok (.iadd, 1) := by decide +kernel
theorem dL_law_153 : decode cL_law 153 = .ok (.iaload, 1) := by decide +kernel
theorem dL_law_154 : decode cL_law 154 = .ok (.aload_n 0, 1) := by decide +kernel
theorem dL_law_155 : decode cL_law 155 = .ok (.iload 4, 2) := by decide +kernel
theorem dL_law_157 : decode cL_law 157 = .ok (.iconst 5, 1) := by decide +kernel
theorem dL_law_158 : decode cL_law 158 = .ok (.iadd, 1) := by decide +kernel
theorem dL_law_159 : decode cL_law 159 = .ok (.iaload, 1) := by decide +kernel
theorem dL_law_160 : decode cL_law 160 = .ok (.invokevirtual 54, 3) := by decide +kernel
theorem dL_law_163 : decode cL_law 163 = .ok (.istore 6, 2) := by decide +kernel
theorem dL_law_165 : decode cL_law 165 = .ok (.aload_n 2, 1) := by decide +kernel
theorem dL_law_166 : decode cL_law 166 = .ok (.invokevirtual 55, 3) := by decide +kernel
theorem dL_law_169 : decode cL_law 169 = .ok (.iload 5, 2) := by decide +kernel
theorem dL_law_171 : decode cL_law 171 = .ok (.if_icmp .eq 5, 3) := by decide +kernel
theorem dL_law_174 : decode cL_law 174 = .ok (.iconst 0, 1) := by decide +kernel
theorem dL_law_175 : decode cL_law 175 = .ok (.ireturn, 1) := by decide +kernel
theorem dL_law_176 : decode cL_law 176 = .ok (.iload 5, 2) := by decide +kernel
theorem dL_law_178 : decode cL_law 178 = .ok (.ifCond .ne 15, 3) := by decide +kernel
theorem dL_law_181 : decode cL_law 181 = .ok (.aload_n 3, 1) := by decide +kernel
theorem dL_law_182 : decode cL_law 182 = .ok (.iconst 0, 1) := by decide +kernel
theorem dL_law_183 : decode cL_law 183 = .ok (.laload, 1) := by decide +kernel
theorem dL_law_184 : decode cL_law 184 = .ok (.iload 6, 2) := by decide +kernel
theorem dL_law_186 : decode cL_law 186 = .ok (.i2l, 1) := by decide +kernel
theorem dL_law_187 : decode cL_law 187 = .ok (.lcmp, 1) := by decide +kernel
theorem dL_law_188 : decode cL_law 188 = .ok (.ifCond .eq 5, 3) := by decide +kernel
theorem dL_law_191 : decode cL_law 191 = .ok (.iconst 0, 1) := by decide +kernel
theorem dL_law_192 : decode cL_law 192 = .ok (.ireturn, 1) := by decide +kernel
theorem dL_law_193 : decode cL_law 193 = .ok (.goto 433, 3) := by decide +kernel
theorem dL_law_196 : decode cL_law 196 = .ok (.aload_n 1, 1) := by decide +kernel
theorem dL_law_197 : decode cL_law 197 = .ok (.aload_n 0, 1) := by decide +kernel
theorem dL_law_198 : decode cL_law 198 = .ok (.iload 4, 2) := by decide +kernel
theorem dL_law_200 : decode cL_law 200 = .ok (.iconst 1, 1) := by decide +kernel
theorem dL_law_201 : decode cL_law 201 = .ok (.iadd, 1) := by decide +kernel
theorem dL_law_202 : decode cL_law 202 = .ok (.iaload, 1) := by decide +kernel
theorem dL_law_203 : decode cL_law 203 = .ok (.aload_n 3, 1) := by decide +kernel
theorem dL_law_204 : decode cL_law 204 = .ok (.invokestatic 59, 3) := by decide +kernel
theorem dL_law_207 : decode cL_law 207 = .ok (.istore 5, 2) := by decide +kernel
theorem dL_law_209 : decode cL_law 209 = .ok (.aload_n 2, 1) := by decide +kernel
theorem dL_law_210 : decode cL_law 210 = .ok (.aload_n 0, 1) := by decide +kernel
theorem dL_law_211 : decode cL_law 211 = .ok (.iload 4, 2) := by decide +kernel
theorem dL_law_213 : decode cL_law 213 = .ok (.iconst 1, 1) := by decide +kernel
theorem dL_law_214 : decode cL_law 214 = .ok (.iadd, 1) := by decide +kernel
theorem dL_law_215 : decode cL_law 215 = .ok (.iaload, 1) := by decide +kernel
theorem dL_law_216 : decode cL_law 216 = .ok (.invokevirtual 62, 3) := by decide +kernel
theorem dL_law_219 : decode cL_law 219 = .ok (.istore 6, 2) := by decide +kernel
theorem dL_law_221 : decode cL_law 221 = .ok (.aload_n 2, 1) := by decide +kernel
theorem dL_law_222 : decode cL_law 222 = .ok (.invokevirtual 55, 3) := by decide +kernel
theorem dL_law_225 : decode cL_law 225 = .ok (.iload 5, 2) := by decide +kernel
theorem dL_law_227 : decode cL_law 227 = .ok (.if_icmp .eq 5, 3) := by decide +kernel
theorem dL_law_230 : decode cL_law 230 = .ok (.iconst 0, 1) := by decide +kernel
theorem dL_law_231 : decode cL_law 231 = .ok (.ireturn, 1) := by decide +kernel
theorem dL_law_232 : decode cL_law 232 = .ok (.iload 5, 2) := by decide +kernel
theorem dL_law_234 : decode cL_law 234 = .ok (.ifCond .ne 15, 3) := by decide +kernel
theorem dL_law_237 : decode cL_law 237 = .ok (.aload_n 3, 1) := by decide +kernel
theorem dL_law_238 : decode cL_law 238 = .ok (.iconst 0, 1) := by decide +kernel
theorem dL_law_239 : decode cL_law 239 = .ok (.laload, 1) := by decide +kernel
theorem dL_law_240 : decode cL_law 240 = .ok (.iload 6, 2) := by decide +kernel
theorem dL_law_242 : decode cL_law 242 = .ok (.i2l, 1) := by decide +kernel
theorem dL_law_243 : decode cL_law 243 = .ok (.lcmp, 1) := by decide +kernel
theorem dL_law_244 : decode cL_law 244 = .ok (.ifCond .eq 5, 3) := by decide +kernel
theorem dL_law_247 : decode cL_law 247 = .ok (.iconst 0, 1) := by decide +kernel
theorem dL_law_248 : decode cL_law 248 = .ok (.ireturn, 1) := by decide +kernel
theorem dL_law_249 : decode cL_law 249 = .ok (.goto 377, 3) := by decide +kernel
theorem dL_law_252 : decode cL_law 252 = .ok (.aload_n 1, 1) := by decide +kernel
theorem dL_law_253 : decode cL_law 253 = .ok (.aload_n 0, 1) := by decide +kernel
theorem dL_law_254 : decode cL_law 254 = .ok (.iload 4, 2) := by decide +kernel
theorem dL_law_256 : decode cL_law 256 = .ok (.iconst 1, 1) := by decide +kernel
theorem dL_law_257 : decode cL_law 257 = .ok (.iadd, 1) := by decide +kernel
theorem dL_law_258 : decode cL_law 258 = .ok (.iaload, 1) := by decide +kernel
theorem dL_law_259 : decode cL_law 259 = .ok (.aload_n 3, 1) := by decide +kernel
theorem dL_law_260 : decode cL_law 260 = .ok (.invokestatic 63, 3) := by decide +kernel
theorem dL_law_263 : decode cL_law 263 = .ok (.istore 5, 2) := by decide +kernel
theorem dL_law_265 : decode cL_law 265 = .ok (.aload_n 2, 1) := by decide +kernel
theorem dL_law_266 : decode cL_law 266 = .ok (.aload_n 0, 1) := by decide +kernel
theorem dL_law_267 : decode cL_law 267 = .ok (.iload 4, 2) := by decide +kernel
theorem dL_law_269 : decode cL_law 269 = .ok (.iconst 1, 1) := by decide +kernel
theorem dL_law_270 : decode cL_law 270 = .ok (.iadd, 1) := by decide +kernel
theorem dL_law_271 : decode cL_law 271 = .ok (.iaload, 1) := by decide +kernel
theorem dL_law_272 : decode cL_law 272 = .ok (.invokevirtual 65, 3) := by decide +kernel
theorem dL_law_275 : decode cL_law 275 = .ok (.istore 6, 2) := by decide +kernel
theorem dL_law_277 : decode cL_law 277 = .ok (.aload_n 2, 1) := by decide +kernel
theorem dL_law_278 : decode cL_law 278 = .ok (.invokevirtual 55, 3) := by decide +kernel
theorem dL_law_281 : decode cL_law 281 = .ok (.iload 5, 2) := by decide +kernel
theorem dL_law_283 : decode cL_law 283 = .ok (.if_icmp .eq 5, 3) := by decide +kernel
theorem dL_law_286 : decode cL_law 286 = .ok (.iconst 0, 1) := by decide +kernel
theorem dL_law_287 : decode cL_law 287 = .ok (.ireturn, 1) := by decide +kernel
theorem dL_law_288 : decode cL_law 288 = .ok (.iload 5, 2) := by decide +kernel
theorem dL_law_290 : decode cL_law 290 = .ok (.ifCond .ne 15, 3) := by decide +kernel
theorem dL_law_293 : decode cL_law 293 = .ok (.aload_n 3, 1) := by decide +kernel
theorem dL_law_294 : decode cL_law 294 = .ok (.iconst 0, 1) := by decide +kernel
theorem dL_law_295 : decode cL_law 295 = .ok (.laload, 1) := by decide +kernel
theorem dL_law_296 : decode cL_law 296 = .ok (.iload 6, 2) := by decide +kernel
theorem dL_law_298 : decode cL_law 298 = .ok (.i2l, 1) := by decide +kernel
theorem dL_law_299 : decode cL_law 299 = .ok (.lcmp, 1) := by decide +kernel
theorem dL_law_300 : decode cL_law 300 = .ok (.ifCond .eq 5, 3) := by decide +kernel
theorem dL_law_303 : decode cL_law 303 = .ok (.iconst 0, 1) := by decide +kernel
theorem dL_law_304 : decode cL_law 304 = .ok (.ireturn, 1) := by decide +kernel
theorem dL_law_305 : decode cL_law 305 = .ok (.goto 321, 3) := by decide +kernel
theorem dL_law_308 : decode cL_law 308 = .ok (.aload_n 1, 1) := by decide +kernel
theorem dL_law_309 : decode cL_law 309 = .ok (.aload_n 0, 1) := by decide +kernel
theorem dL_law_310 : decode cL_law 310 = .ok (.iload 4, 2) := by decide +kernel
theorem dL_law_312 : decode cL_law 312 = .ok (.iconst 1, 1) := by decide +kernel
theorem dL_law_313 : decode cL_law 313 = .ok (.iadd, 1) := by decide +kernel
theorem dL_law_314 : decode cL_law 314 = .ok (.iaload, 1) := by decide +kernel
theorem dL_law_315 : decode cL_law 315 = .ok (.aload_n 3, 1) := by decide +kernel
theorem dL_law_316 : decode cL_law 316 = .ok (.invokestatic 66, 3) := by decide +kernel
theorem dL_law_319 : decode cL_law 319 = .ok (.istore 5, 2) := by decide +kernel
theorem dL_law_321 : decode cL_law 321 = .ok (.aload_n 2, 1) := by decide +kernel
theorem dL_law_322 : decode cL_law 322 = .ok (.aload_n 0, 1) := by decide +kernel
theorem dL_law_323 : decode cL_law 323 = .ok (.iload 4, 2) := by decide +kernel
theorem dL_law_325 : decode cL_law 325 = .ok (.iconst 1, 1) := by decide +kernel
theorem dL_law_326 : decode cL_law 326 = .ok (.iadd, 1) := by decide +kernel
theorem dL_law_327 : decode cL_law 327 = .ok (.iaload, 1) := by decide +kernel
theorem dL_law_328 : decode cL_law 328 = .ok (.invokevirtual 68, 3) := by decide +kernel
theorem dL_law_331 : decode cL_law 331 = .ok (.istore 6, 2) := by decide +kernel
theorem dL_law_333 : decode cL_law 333 = .ok (.aload_n 2, 1) := by decide +kernel
theorem dL_law_334 : decode cL_law 334 = .ok (.invokevirtual 55, 3) := by decide +kernel
theorem dL_law_337 : decode cL_law 337 = .ok (.iload 5, 2) := by decide +kernel
theorem dL_law_339 : decode cL_law 339 = .ok (.if_icmp .eq 5, 3) := by decide +kernel
theorem dL_law_342 : decode cL_law 342 = .ok (.iconst 0, 1) := by decide +kernel
theorem dL_law_343 : decode cL_law 343 = .ok (.ireturn, 1) := by decide +kernel
theorem dL_law_344 : decode cL_law 344 = .ok (.iload 5, 2) := by decide +kernel
theorem dL_law_346 : decode cL_law 346 = .ok (.ifCond .ne 22, 3) := by decide +kernel
theorem dL_law_349 : decode cL_law 349 = .ok (.aload_n 3, 1) := by decide +kernel
theorem dL_law_350 : decode cL_law 350 = .ok (.iconst 0, 1) := by decide +kernel
theorem dL_law_351 : decode cL_law 351 = .ok (.laload, 1) := by decide +kernel
theorem dL_law_352 : decode cL_law 352 = .ok (.iload 6, 2) := by decide +kernel
theorem dL_law_354 : decode cL_law 354 = .ok (.ifCond .eq 7, 3) := by decide +kernel
theorem dL_law_357 : decode cL_law 357 = .ok (.lconst 1, 1) := by decide +kernel
theorem dL_law_358 : decode cL_law 358 = .ok (.goto 4, 3) := by decide +kernel
theorem dL_law_361 : decode cL_law 361 = .ok (.lconst 0, 1) := by decide +kernel
theorem dL_law_362 : decode cL_law 362 = .ok (.lcmp, 1) := by decide +kernel
theorem dL_law_363 : decode cL_law 363 = .ok (.ifCond .eq 5, 3) := by decide +kernel
theorem dL_law_366 : decode cL_law 366 = .ok (.iconst 0, 1) := by decide +kernel
theorem dL_law_367 : decode cL_law 367 = .ok (.ireturn, 1) := by decide +kernel
theorem dL_law_368 : decode cL_law 368 = .ok (.goto 258, 3) := by decide +kernel
theorem dL_law_371 : decode cL_law 371 = .ok (.aload_n 1, 1) := by decide +kernel
theorem dL_law_372 : decode cL_law 372 = .ok (.aload_n 0, 1) := by decide +kernel
theorem dL_law_373 : decode cL_law 373 = .ok (.iload 4, 2) := by decide +kernel
theorem dL_law_375 : decode cL_law 375 = .ok (.iconst 1, 1) := by decide +kernel
theorem dL_law_376 : decode cL_law 376 = .ok (.iadd, 1) := by decide +kernel
theorem dL_law_377 : decode cL_law 377 = .ok (.iaload, 1) := by decide +kernel
theorem dL_law_378 : decode cL_law 378 = .ok (.aload_n 3, 1) := by decide +kernel
theorem dL_law_379 : decode cL_law 379 = .ok (.invokestatic 69, 3) := by decide +kernel
theorem dL_law_382 : decode cL_law 382 = .ok (.istore 5, 2) := by decide +kernel
theorem dL_law_384 : decode cL_law 384 = .ok (.aload_n 2, 1) := by decide +kernel
theorem dL_law_385 : decode cL_law 385 = .ok (.aload_n 0, 1) := by decide +kernel
theorem dL_law_386 : decode cL_law 386 = .ok (.iload 4, 2) := by decide +kernel
theorem dL_law_388 : decode cL_law 388 = .ok (.iconst 1, 1) := by decide +kernel
theorem dL_law_389 : decode cL_law 389 = .ok (.iadd, 1) := by decide +kernel
theorem dL_law_390 : decode cL_law 390 = .ok (.iaload, 1) := by decide +kernel
theorem dL_law_391 : decode cL_law 391 = .ok (.invokevirtual 71, 3) := by decide +kernel
theorem dL_law_394 : decode cL_law 394 = .ok (.istore 6, 2) := by decide +kernel
theorem dL_law_396 : decode cL_law 396 = .ok (.aload_n 2, 1) := by decide +kernel
theorem dL_law_397 : decode cL_law 397 = .ok (.invokevirtual 55, 3) := by decide +kernel
theorem dL_law_400 : decode cL_law 400 = .ok (.iload 5, 2) := by decide +kernel
theorem dL_law_402 : decode cL_law 402 = .ok (.if_icmp .eq 5, 3) := by decide +kernel
theorem dL_law_405 : decode cL_law 405 = .ok (.iconst 0, 1) := by decide +kernel
theorem dL_law_406 : decode cL_law 406 = .ok (.ireturn, 1) := by decide +kernel
theorem dL_law_407 : decode cL_law 407 = .ok (.iload 5, 2) := by decide +kernel
theorem dL_law_409 : decode cL_law 409 = .ok (.ifCond .ne 22, 3) := by decide +kernel
theorem dL_law_412 : decode cL_law 412 = .ok (.aload_n 3, 1) := by decide +kernel
theorem dL_law_413 : decode cL_law 413 = .ok (.iconst 0, 1) := by decide +kernel
theorem dL_law_414 : decode cL_law 414 = .ok (.laload, 1) := by decide +kernel
theorem dL_law_415 : decode cL_law 415 = .ok (.iload 6, 2) := by decide +kernel
theorem dL_law_417 : decode cL_law 417 = .ok (.ifCond .eq 7, 3) := by decide +kernel
theorem dL_law_420 : decode cL_law 420 = .ok (.lconst 1, 1) := by decide +kernel
theorem dL_law_421 : decode cL_law 421 = .ok (.goto 4, 3) := by decide +kernel
theorem dL_law_424 : decode cL_law 424 = .ok (.lconst 0, 1) := by decide +kernel
theorem dL_law_425 : decode cL_law 425 = .ok (.lcmp, 1) := by decide +kernel
theorem dL_law_426 : decode cL_law 426 = .ok (.ifCond .eq 5, 3) := by decide +kernel
theorem dL_law_429 : decode cL_law 429 = .ok (.iconst 0, 1) := by decide +kernel
theorem dL_law_430 : decode cL_law 430 = .ok (.ireturn, 1) := by decide +kernel
theorem dL_law_431 : decode cL_law 431 = .ok (.goto 195, 3) := by decide +kernel
theorem dL_law_434 : decode cL_law 434 = .ok (.aload_n 1, 1) := by decide +kernel
theorem dL_law_435 : decode cL_law 435 = .ok (.aload_n 0, 1) := by decide +kernel
theorem dL_law_436 : decode cL_law 436 = .ok (.iload 4, 2) := by decide +kernel
theorem dL_law_438 : decode cL_law 438 = .ok (.iconst 1, 1) := by decide +kernel
theorem dL_law_439 : decode cL_law 439 = .ok (.iadd, 1) := by decide +kernel
theorem dL_law_440 : decode cL_law 440 = .ok (.iaload, 1) := by decide +kernel
theorem dL_law_441 : decode cL_law 441 = .ok (.aload_n 3, 1) := by decide +kernel
theorem dL_law_442 : decode cL_law 442 = .ok (.invokestatic 72, 3) := by decide +kernel
theorem dL_law_445 : decode cL_law 445 = .ok (.istore 5, 2) := by decide +kernel
theorem dL_law_447 : decode cL_law 447 = .ok (.aload_n 2, 1) := by decide +kernel
theorem dL_law_448 : decode cL_law 448 = .ok (.aload_n 0, 1) := by decide +kernel
theorem dL_law_449 : decode cL_law 449 = .ok (.iload 4, 2) := by decide +kernel
theorem dL_law_451 : decode cL_law 451 = .ok (.iconst 1, 1) := by decide +kernel
theorem dL_law_452 : decode cL_law 452 = .ok (.iadd, 1) := by decide +kernel
theorem dL_law_453 : decode cL_law 453 = .ok (.iaload, 1) := by decide +kernel
theorem dL_law_454 : decode cL_law 454 = .ok (.invokevirtual 74, 3) := by decide +kernel
theorem dL_law_457 : decode cL_law 457 = .ok (.istore 6, 2) := by decide +kernel
theorem dL_law_459 : decode cL_law 459 = .ok (.aload_n 2, 1) := by decide +kernel
theorem dL_law_460 : decode cL_law 460 = .ok (.invokevirtual 55, 3) := by decide +kernel
theorem dL_law_463 : decode cL_law 463 = .ok (.iload 5, 2) := by decide +kernel
theorem dL_law_465 : decode cL_law 465 = .ok (.if_icmp .eq 5, 3) := by decide +kernel
theorem dL_law_468 : decode cL_law 468 = .ok (.iconst 0, 1) := by decide +kernel
theorem dL_law_469 : decode cL_law 469 = .ok (.ireturn, 1) := by decide +kernel
theorem dL_law_470 : decode cL_law 470 = .ok (.iload 5, 2) := by decide +kernel
theorem dL_law_472 : decode cL_law 472 = .ok (.ifCond .ne 15, 3) := by decide +kernel
theorem dL_law_475 : decode cL_law 475 = .ok (.aload_n 3, 1) := by decide +kernel
theorem dL_law_476 : decode cL_law 476 = .ok (.iconst 0, 1) := by decide +kernel
theorem dL_law_477 : decode cL_law 477 = .ok (.laload, 1) := by decide +kernel
theorem dL_law_478 : decode cL_law 478 = .ok (.iload 6, 2) := by decide +kernel
theorem dL_law_480 : decode cL_law 480 = .ok (.i2l, 1) := by decide +kernel
theorem dL_law_481 : decode cL_law 481 = .ok (.lcmp, 1) := by decide +kernel
theorem dL_law_482 : decode cL_law 482 = .ok (.ifCond .eq 5, 3) := by decide +kernel
theorem dL_law_485 : decode cL_law 485 = .ok (.iconst 0, 1) := by decide +kernel
theorem dL_law_486 : decode cL_law 486 = .ok (.ireturn, 1) := by decide +kernel
theorem dL_law_487 : decode cL_law 487 = .ok (.goto 139, 3) := by decide +kernel
theorem dL_law_490 : decode cL_law 490 = .ok (.aload_n 1, 1) := by decide +kernel
theorem dL_law_491 : decode cL_law 491 = .ok (.aload_n 0, 1) := by decide +kernel
theorem dL_law_492 : decode cL_law 492 = .ok (.iload 4, 2) := by decide +kernel
theorem dL_law_494 : decode cL_law 494 = .ok (.iconst 1, 1) := by decide +kernel
theorem dL_law_495 : decode cL_law 495 = .ok (.iadd, 1) := by decide +kernel
theorem dL_law_496 : decode cL_law 496 = .ok (.iaload, 1) := by decide +kernel
theorem dL_law_497 : decode cL_law 497 = .ok (.aload_n 3, 1) := by decide +kernel
theorem dL_law_498 : decode cL_law 498 = .ok (.invokestatic 75, 3) := by decide +kernel
theorem dL_law_501 : decode cL_law 501 = .ok (.istore 5, 2) := by decide +kernel
theorem dL_law_503 : decode cL_law 503 = .ok (.aload_n 2, 1) := by decide +kernel
theorem dL_law_504 : decode cL_law 504 = .ok (.aload_n 0, 1) := by decide +kernel
theorem dL_law_505 : decode cL_law 505 = .ok (.iload 4, 2) := by decide +kernel
theorem dL_law_507 : decode cL_law 507 = .ok (.iconst 1, 1) := by decide +kernel
theorem dL_law_508 : decode cL_law 508 = .ok (.iadd, 1) := by decide +kernel
theorem dL_law_509 : decode cL_law 509 = .ok (.iaload, 1) := by decide +kernel
theorem dL_law_510 : decode cL_law 510 = .ok (.invokevirtual 77, 3) := by decide +kernel
theorem dL_law_513 : decode cL_law 513 = .ok (.istore 6, 2) := by decide +kernel
theorem dL_law_515 : decode cL_law 515 = .ok (.aload_n 2, 1) := by decide +kernel
theorem dL_law_516 : decode cL_law 516 = .ok (.invokevirtual 55, 3) := by decide +kernel
theorem dL_law_519 : decode cL_law 519 = .ok (.iload 5, 2) := by decide +kernel
theorem dL_law_521 : decode cL_law 521 = .ok (.if_icmp .eq 5, 3) := by decide +kernel
theorem dL_law_524 : decode cL_law 524 = .ok (.iconst 0, 1) := by decide +kernel
theorem dL_law_525 : decode cL_law 525 = .ok (.ireturn, 1) := by decide +kernel
theorem dL_law_526 : decode cL_law 526 = .ok (.iload 5, 2) := by decide +kernel
theorem dL_law_528 : decode cL_law 528 = .ok (.ifCond .ne 15, 3) := by decide +kernel
theorem dL_law_531 : decode cL_law 531 = .ok (.aload_n 3, 1) := by decide +kernel
theorem dL_law_532 : decode cL_law 532 = .ok (.iconst 0, 1) := by decide +kernel
theorem dL_law_533 : decode cL_law 533 = .ok (.laload, 1) := by decide +kernel
theorem dL_law_534 : decode cL_law 534 = .ok (.iload 6, 2) := by decide +kernel
theorem dL_law_536 : decode cL_law 536 = .ok (.i2l, 1) := by decide +kernel
theorem dL_law_537 : decode cL_law 537 = .ok (.lcmp, 1) := by decide +kernel
theorem dL_law_538 : decode cL_law 538 = .ok (.ifCond .eq 5, 3) := by decide +kernel
theorem dL_law_541 : decode cL_law 541 = .ok (.iconst 0, 1) := by decide +kernel
theorem dL_law_542 : decode cL_law 542 = .ok (.ireturn, 1) := by decide +kernel
theorem dL_law_543 : decode cL_law 543 = .ok (.goto 83, 3) := by decide +kernel
theorem dL_law_546 : decode cL_law 546 = .ok (.aload_n 1, 1) := by decide +kernel
theorem dL_law_547 : decode cL_law 547 = .ok (.aload_n 0, 1) := by decide +kernel
theorem dL_law_548 : decode cL_law 548 = .ok (.iload 4, 2) := by decide +kernel
theorem dL_law_550 : decode cL_law 550 = .ok (.iconst 1, 1) := by decide +kernel
theorem dL_law_551 : decode cL_law 551 = .ok (.iadd, 1) := by decide +kernel
theorem dL_law_552 : decode cL_law 552 = .ok (.iaload, 1) := by decide +kernel
theorem dL_law_553 : decode cL_law 553 = .ok (.aload_n 0, 1) := by decide +kernel
theorem dL_law_554 : decode cL_law 554 = .ok (.iload 4, 2) := by decide +kernel
theorem dL_law_556 : decode cL_law 556 = .ok (.iconst 2, 1) := by decide +kernel
theorem dL_law_557 : decode cL_law 557 = .ok (.iadd, 1) := by decide +kernel
theorem dL_law_558 : decode cL_law 558 = .ok (.iaload, 1) := by decide +kernel
theorem dL_law_559 : decode cL_law 559 = .ok (.aload_n 3, 1) := by decide +kernel
theorem dL_law_560 : decode cL_law 560 = .ok (.invokestatic 78, 3) := by decide +kernel
theorem dL_law_563 : decode cL_law 563 = .ok (.istore 5, 2) := by decide +kernel
theorem dL_law_565 : decode cL_law 565 = .ok (.aload_n 2, 1) := by decide +kernel
theorem dL_law_566 : decode cL_law 566 = .ok (.aload_n 0, 1) := by decide +kernel
theorem dL_law_567 : decode cL_law 567 = .ok (.iload 4, 2) := by decide +kernel
theorem dL_law_569 : decode cL_law 569 = .ok (.iconst 1, 1) := by decide +kernel
theorem dL_law_570 : decode cL_law 570 = .ok (.iadd, 1) := by decide +kernel
theorem dL_law_571 : decode cL_law 571 = .ok (.iaload, 1) := by decide +kernel
theorem dL_law_572 : decode cL_law 572 = .ok (.aload_n 0, 1) := by decide +kernel
theorem dL_law_573 : decode cL_law 573 = .ok (.iload 4, 2) := by decide +kernel
theorem dL_law_575 : decode cL_law 575 = .ok (.iconst 2, 1) := by decide +kernel
theorem dL_law_576 : decode cL_law 576 = .ok (.iadd, 1) := by decide +kernel
theorem dL_law_577 : decode cL_law 577 = .ok (.iaload, 1) := by decide +kernel
theorem dL_law_578 : decode cL_law 578 = .ok (.invokevirtual 81, 3) := by decide +kernel
theorem dL_law_581 : decode cL_law 581 = .ok (.lstore 6, 2) := by decide +kernel
theorem dL_law_583 : decode cL_law 583 = .ok (.aload_n 2, 1) := by decide +kernel
theorem dL_law_584 : decode cL_law 584 = .ok (.invokevirtual 55, 3) := by decide +kernel
theorem dL_law_587 : decode cL_law 587 = .ok (.iload 5, 2) := by decide +kernel
theorem dL_law_589 : decode cL_law 589 = .ok (.if_icmp .eq 5, 3) := by decide +kernel
theorem dL_law_592 : decode cL_law 592 = .ok (.iconst 0, 1) := by decide +kernel
theorem dL_law_593 : decode cL_law 593 = .ok (.ireturn, 1) := by decide +kernel
theorem dL_law_594 : decode cL_law 594 = .ok (.iload 5, 2) := by decide +kernel
theorem dL_law_596 : decode cL_law 596 = .ok (.ifCond .ne 14, 3) := by decide +kernel
theorem dL_law_599 : decode cL_law 599 = .ok (.aload_n 3, 1) := by decide +kernel
theorem dL_law_600 : decode cL_law 600 = .ok (.iconst 0, 1) := by decide +kernel
theorem dL_law_601 : decode cL_law 601 = .ok (.laload, 1) := by decide +kernel
theorem dL_law_602 : decode cL_law 602 = .ok (.lload 6, 2) := by decide +kernel
theorem dL_law_604 : decode cL_law 604 = .ok (.lcmp, 1) := by decide +kernel
theorem dL_law_605 : decode cL_law 605 = .ok (.ifCond .eq 5, 3) := by decide +kernel
theorem dL_law_608 : decode cL_law 608 = .ok (.iconst 0, 1) := by decide +kernel
theorem dL_law_609 : decode cL_law 609 = .ok (.ireturn, 1) := by decide +kernel
theorem dL_law_610 : decode cL_law 610 = .ok (.goto 16, 3) := by decide +kernel
theorem dL_law_613 : decode cL_law 613 = .ok (.aload_n 1, 1) := by decide +kernel
theorem dL_law_614 : decode cL_law 614 = .ok (.invokevirtual 82, 3) := by decide +kernel
theorem dL_law_617 : decode cL_law 617 = .ok (.aload_n 2, 1) := by decide +kernel
theorem dL_law_618 : decode cL_law 618 = .ok (.invokevirtual 85, 3) := by decide +kernel
theorem dL_law_621 : decode cL_law 621 = .ok (.if_icmp .eq 5, 3) := by decide +kernel
theorem dL_law_624 : decode cL_law 624 = .ok (.iconst 0, 1) := by decide +kernel
theorem dL_law_625 : decode cL_law 625 = .ok (.ireturn, 1) := by decide +kernel
theorem dL_law_626 : decode cL_law 626 = .ok (.iinc 4 6, 3) := by decide +kernel
theorem dL_law_629 : decode cL_law 629 = .ok (.goto (-606), 3) := by decide +kernel
theorem dL_law_632 : decode cL_law 632 = .ok (.iconst 1, 1) := by decide +kernel
theorem dL_law_633 : decode cL_law 633 = .ok (.ireturn, 1) := by decide +kernel
