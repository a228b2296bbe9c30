set_option maxRecDepth 100000
theorem dX6_thrown_0 : decode cX6_thrown 0 = .ok (.aload_n 0, 1) := by decide +kernel
theorem dX6_thrown_1 : decode cX6_thrown 1 = .ok (.getfield 3, 3) := by decide +kernel
theorem dX6_thrown_4 : decode cX6_thrown 4 = .ok (.ireturn, 1) := by decide +kernel
theorem dX6_init_0 : decode cX6_init 0 = .ok (.aload_n 0, 1) := by decide +kernel
theorem dX6_init_1 : decode cX6_init 1 = .ok (.invokespecial 209, 3) := by decide +kernel
theorem dX6_init_4 : decode cX6_init 4 = .ok (.aload_n 0, 1) := by decide +kernel
theorem dX6_init_5 : decode cX6_init 5 = .ok (.sipush 2048, 3) := by decide +kernel
theorem dX6_init_8 : decode cX6_init 8 = .ok (.newarray .byte, 2) := by decide +kernel
theorem dX6_init_10 : decode cX6_init 10 = .ok (.putfield 30, 3) := by decide +kernel
theorem dX6_init_13 : decode cX6_init 13 = .ok (.aload_n 0, 1) := by decide +kernel
theorem dX6_init_14 : decode cX6_init 14 = .ok (.iconst (-1), 1) := by decide +kernel
theorem dX6_init_15 : decode cX6_init 15 = .ok (.putfield 214, 3) := by decide +kernel
theorem dX6_init_18 : decode cX6_init 18 = .ok (.aload_n 0, 1) := by decide +kernel
theorem dX6_init_19 : decode cX6_init 19 = .ok (.sipush 256, 3) := by decide +kernel
theorem dX6_init_22 : decode cX6_init 22 = .ok (.newarray .int, 2) := by decide +kernel
theorem dX6_init_24 : decode cX6_init 24 = .ok (.putfield 10, 3) := by decide +kernel
theorem dX6_init_27 : decode cX6_init 27 = .ok (.aload_n 0, 1) := by decide +kernel
theorem dX6_init_28 : decode cX6_init 28 = .ok (.sipush 256, 3) := by decide +kernel
theorem dX6_init_31 : decode cX6_init 31 = .ok (.newarray .int, 2) := by decide +kernel
theorem dX6_init_33 : decode cX6_init 33 = .ok (.putfield 20, 3) := by decide +kernel
theorem dX6_init_36 : decode cX6_init 36 = .ok (.aload_n 0, 1) := by decide +kernel
theorem dX6_init_37 : decode cX6_init 37 = .ok (.sipush 512, 3) := by decide +kernel
theorem dX6_init_40 : decode cX6_init 40 = .ok (.newarray .long, 2) := by decide +kernel
theorem dX6_init_42 : decode cX6_init 42 = .ok (.putfield 108, 3) := by decide +kernel
theorem dX6_init_45 : decode cX6_init 45 = .ok (.aload_n 0, 1) := by decide +kernel
theorem dX6_init_46 : decode cX6_init 46 = .ok (.sipush 512, 3) := by decide +kernel
theorem dX6_init_49 : decode cX6_init 49 = .ok (.newarray .long, 2) := by decide +kernel
theorem dX6_init_51 : decode cX6_init 51 = .ok (.putfield 112, 3) := by decide +kernel
theorem dX6_init_54 : decode cX6_init 54 = .ok (.aload_n 0, 1) := by decide +kernel
theorem dX6_init_55 : decode cX6_init 55 = .ok (.bipush 41, 2) := by decide +kernel
theorem dX6_init_57 : decode cX6_init 57 = .ok (.newarray .int, 2) := by decide +kernel
theorem dX6_init_59 : decode cX6_init 59 = .ok (.putfield 85, 3) := by decide +kernel
theorem dX6_init_62 : decode cX6_init 62 = .ok (.aload_n 0, 1) := by decide +kernel
theorem dX6_init_63 : decode cX6_init 63 = .ok (.bipush 41, 2) := by decide +kernel
theorem dX6_init_65 : decode cX6_init 65 = .ok (.newarray .int, 2) := by decide +kernel
theorem dX6_init_67 : decode cX6_init 67 = .ok (.putfield 88, 3) := by decide +kernel
theorem dX6_init_70 : decode cX6_init 70 = .ok (.aload_n 0, 1) := by decide +kernel
theorem dX6_init_71 : decode cX6_init 71 = .ok (.bipush 41, 2) := by decide +kernel
theorem dX6_init_73 : decode cX6_init 73 = .ok (.newarray .int, 2) := by decide +kernel
theorem dX6_init_75 : decode cX6_init 75 = .ok (.putfield 78, 3) := by decide +kernel
theorem dX6_init_78 : decode cX6_init 78 = .ok (.aload_n 0, 1) := by decide +kernel
theorem dX6_init_79 : decode cX6_init 79 = .ok (.bipush 41, 2) := by decide +kernel
theorem dX6_init_81 : decode cX6_init 81 = .ok (.newarray .boolean, 2) := by decide +kernel
theorem dX6_init_83 : decode cX6_init 83 = .ok (.putfield 81, 3) := by decide +kernel
theorem dX6_init_86 : decode cX6_init 86 = .ok (.aload_n 0, 1) := by decide +kernel
theorem dX6_init_87 : decode cX6_init 87 = .ok (.sipush 2807, 3) := by decide +kernel
theorem dX6_init_90 : decode cX6_init 90 = .ok (.newarray .long, 2) := by decide +kernel
theorem dX6_init_92 : decode cX6_init 92 = .ok (.putfield 136, 3) := by decide +kernel
theorem dX6_init_95 : decode cX6_init 95 = .ok (.aload_n 0, 1) := by decide +kernel
theorem dX6_init_96 : decode cX6_init 96 = .ok (.sipush 401, 3) := by decide +kernel
theorem dX6_init_99 : decode cX6_init 99 = .ok (.newarray .int, 2) := by decide +kernel
theorem dX6_init_101 : decode cX6_init 101 = .ok (.putfield 175, 3) := by decide +kernel
theorem dX6_init_104 : decode cX6_init 104 = .ok (.aload_n 0, 1) := by decide +kernel
theorem dX6_init_105 : decode cX6_init 105 = .ok (.ldc 217, 2) := by decide +kernel
theorem dX6_init_107 : decode cX6_init 107 = .ok (.newarray .int, 2) := by decide +kernel
theorem dX6_init_109 : decode cX6_init 109 = .ok (.putfield 181, 3) := by decide +kernel
theorem dX6_init_112 : decode cX6_init 112 = .ok (.aload_n 0, 1) := by decide +kernel
theorem dX6_init_113 : decode cX6_init 113 = .ok (.sipush 256, 3) := by decide +kernel
theorem dX6_init_116 : decode cX6_init 116 = .ok (.newarray .int, 2) := by decide +kernel
theorem dX6_init_118 : decode cX6_init 118 = .ok (.putfield 115, 3) := by decide +kernel
theorem dX6_init_121 : decode cX6_init 121 = .ok (.aload_n 0, 1) := by decide +kernel
theorem dX6_init_122 : decode cX6_init 122 = .ok (.sipush 256, 3) := by decide +kernel
theorem dX6_init_125 : decode cX6_init 125 = .ok (.newarray .int, 2) := by decide +kernel
theorem dX6_init_127 : decode cX6_init 127 = .ok (.putfield 121, 3) := by decide +kernel
theorem dX6_init_130 : decode cX6_init 130 = .ok (.aload_n 0, 1) := by decide +kernel
theorem dX6_init_131 : decode cX6_init 131 = .ok (.sipush 400, 3) := by decide +kernel
theorem dX6_init_134 : decode cX6_init 134 = .ok (.newarray .int, 2) := by decide +kernel
theorem dX6_init_136 : decode cX6_init 136 = .ok (.putfield 130, 3) := by decide +kernel
theorem dX6_init_139 : decode cX6_init 139 = .ok (.aload_n 0, 1) := by decide +kernel
theorem dX6_init_140 : decode cX6_init 140 = .ok (.sipush 400, 3) := by decide +kernel
theorem dX6_init_143 : decode cX6_init 143 = .ok (.newarray .int, 2) := by decide +kernel
theorem dX6_init_145 : decode cX6_init 145 = .ok (.putfield 162, 3) := by decide +kernel
theorem dX6_init_148 : decode cX6_init 148 = .ok (.aload_n 0, 1) := by decide +kernel
theorem dX6_init_149 : decode cX6_init 149 = .ok (.bipush 7, 2) := by decide +kernel
theorem dX6_init_151 : decode cX6_init 151 = .ok (.newarray .long, 2) := by decide +kernel
theorem dX6_init_153 : decode cX6_init 153 = .ok (.putfield 139, 3) := by decide +kernel
theorem dX6_init_156 : decode cX6_init 156 = .ok (.aload_n 0, 1) := by decide +kernel
theorem dX6_init_157 : decode cX6_init 157 = .ok (.sipush 1024, 3) := by decide +kernel
theorem dX6_init_160 : decode cX6_init 160 = .ok (.newarray .int, 2) := by decide +kernel
theorem dX6_init_162 : decode cX6_init 162 = .ok (.putfield 150, 3) := by decide +kernel
theorem dX6_init_165 : decode cX6_init 165 = .ok (.aload_n 0, 1) := by decide +kernel
theorem dX6_init_166 : decode cX6_init 166 = .ok (.sipush 401, 3) := by decide +kernel
theorem dX6_init_169 : decode cX6_init 169 = .ok (.newarray .int, 2) := by decide +kernel
theorem dX6_init_171 : decode cX6_init 171 = .ok (.putfield 156, 3) := by decide +kernel
theorem dX6_init_174 : decode cX6_init 174 = .ok (.aload_n 0, 1) := by decide +kernel
theorem dX6_init_175 : decode cX6_init 175 = .ok (.sipush 401, 3) := by decide +kernel
theorem dX6_init_178 : decode cX6_init 178 = .ok (.newarray .boolean, 2) := by decide +kernel
theorem dX6_init_180 : decode cX6_init 180 = .ok (.putfield 184, 3) := by decide +kernel
theorem dX6_init_183 : decode cX6_init 183 = .ok (.aload_n 0, 1) := by decide +kernel
theorem dX6_init_184 : decode cX6_init 184 = .ok (.sipush 401, 3) := by decide +kernel
theorem dX6_init_187 : decode cX6_init 187 = .ok (.newarray .int, 2) := by decide +kernel
theorem dX6_init_189 : decode cX6_init 189 = .ok (.putfield 187, 3) := by decide +kernel
theorem dX6_init_192 : decode cX6_init 192 = .ok (.aload_n 0, 1) := by decide +kernel
theorem dX6_init_193 : decode cX6_init 193 = .ok (.sipush 401, 3) := by decide +kernel
theorem dX6_init_196 : decode cX6_init 196 = .ok (.newarray .int, 2) := by decide +kernel
theorem dX6_init_198 : decode cX6_init 198 = .ok (.putfield 206, 3) := by decide +kernel
theorem dX6_init_201 : decode cX6_init 201 = .ok (.aload_n 0, 1) := by decide +kernel
theorem dX6_init_202 : decode cX6_init 202 = .ok (.sipush 401, 3) := by decide +kernel
theorem dX6_init_205 : decode cX6_init 205 = .ok (.newarray .int, 2) := by decide +kernel
theorem dX6_init_207 : decode cX6_init 207 = .ok (.putfield 199, 3) := by decide +kernel
theorem dX6_init_210 : decode cX6_init 210 = .ok (.aload_n 0, 1) := by decide +kernel
theorem dX6_init_211 : decode cX6_init 211 = .ok (.ldc 218, 2) := by decide +kernel
theorem dX6_init_213 : decode cX6_init 213 = .ok (.newarray .int, 2) := by decide +kernel
theorem dX6_init_215 : decode cX6_init 215 = .ok (.putfield 219, 3) := by decide +kernel
theorem dX6_init_218 : decode cX6_init 218 = .ok (.aload_n 0, 1) := by decide +kernel
theorem dX6_init_219 : decode cX6_init 219 = .ok (.iconst 2, 1) := by decide +kernel
theorem dX6_init_220 : decode cX6_init 220 = .ok (.newarray .int, 2) := by decide +kernel
theorem dX6_init_222 : decode cX6_init 222 = .ok (.putfield 222, 3) := by decide +kernel
theorem dX6_init_225 : decode cX6_init 225 = .ok (.aload_n 0, 1) := by decide +kernel
theorem dX6_init_226 : decode cX6_init 226 = .ok (.sipush 804, 3) := by decide +kernel
theorem dX6_init_229 : decode cX6_init 229 = .ok (.newarray .boolean, 2) := by decide +kernel
theorem dX6_init_231 : decode cX6_init 231 = .ok (.putfield 225, 3) := by decide +kernel
theorem dX6_init_234 : decode cX6_init 234 = .ok (.aload_n 0, 1) := by decide +kernel
theorem dX6_init_235 : decode cX6_init 235 = .ok (.ldc 228, 2) := by decide +kernel
theorem dX6_init_237 : decode cX6_init 237 = .ok (.newarray .byte, 2) := by decide +kernel
theorem dX6_init_239 : decode cX6_init 239 = .ok (.putfield 229, 3) := by decide +kernel
theorem dX6_init_242 : decode cX6_init 242 = .ok (.aload_n 0, 1) := by decide +kernel
theorem dX6_init_243 : decode cX6_init 243 = .ok (.ldc 228, 2) := by decide +kernel
theorem dX6_init_245 : decode cX6_init 245 = .ok (.newarray .int, 2) := by decide +kernel
theorem dX6_init_247 : decode cX6_init 247 = .ok (.putfield 232, 3) := by decide +kernel
theorem dX6_init_250 : decode cX6_init 250 = .ok (.aload_n 0, 1) := by decide +kernel
theorem dX6_init_251 : decode cX6_init 251 = .ok (.ldc 228, 2) := by decide +kernel
theorem dX6_init_253 : decode cX6_init 253 = .ok (.newarray .int, 2) := by decide +kernel
theorem dX6_init_255 : decode cX6_init 255 = .ok (.putfield 235, 3) := by decide +kernel
theorem dX6_init_258 : decode cX6_init 258 = .ok (.aload_n 0, 1) := by decide +kernel
theorem dX6_init_259 : decode cX6_init 259 = .ok (.ldc 228, 2) := by decide +kernel
theorem dX6_init_261 : decode cX6_init 261 = .ok (.newarray .byte, 2) := by decide +kernel
theorem dX6_init_263 : decode cX6_init 263 = .ok (.putfield 238, 3) := by decide +kernel
theorem dX6_init_266 : decode cX6_init 266 = .ok (.aload_n 0, 1) := by decide +kernel
theorem dX6_init_267 : decode cX6_init 267 = .ok (.sipush 402, 3) := by decide +kernel
theorem dX6_init_270 : decode cX6_init 270 = .ok (.newarray .long, 2) := by decide +kernel
theorem dX6_init_272 : decode cX6_init 272 = .ok (.putfield 241, 3) := by decide +kernel
theorem dX6_init_275 : decode cX6_init 275 = .ok (.aload_n 0, 1) := by decide +kernel
theorem dX6_init_276 : decode cX6_init 276 = .ok (.sipush 402, 3) := by decide +kernel
theorem dX6_init_279 : decode cX6_init 279 = .ok (.newarray .long, 2) := by decide +kernel
theorem dX6_init_281 : decode cX6_init 281 = .ok (.putfield 244, 3) := by decide +kernel
theorem dX6_init_284 : decode cX6_init 284 = .ok (.aload_n 0, 1) := by decide +kernel
theorem dX6_init_285 : decode cX6_init 285 = .ok (.iconst 0, 1) := by decide +kernel
theorem dX6_init_286 : decode cX6_init 286 = .ok (.iconst 0, 1) := by decide +kernel
theorem dX6_init_287 : decode cX6_init 287 = .ok (.invokevirtual 247, 3) := by decide +kernel
theorem dX6_init_290 : decode cX6_init 290 = .ok (.pop, 1) := by decide +kernel
theorem dX6_init_291 : decode cX6_init 291 = .ok (.aload_n 0, 1) := by decide +kernel
theorem dX6_init_292 : decode cX6_init 292 = .ok (.iconst 1, 1) := by decide +kernel
theorem dX6_init_293 : decode cX6_init 293 = .ok (.iconst 0, 1) := by decide +kernel
theorem dX6_init_294 : decode cX6_init 294 = .ok (.invokevirtual 247, 3) := by decide +kernel
theorem dX6_init_297 : decode cX6_init 297 = .ok (.pop, 1) := by decide +kernel
theorem dX6_init_298 : decode cX6_init 298 = .ok (.return_, 1) := by decide +kernel
theorem dX6_parsed_0 : decode cX6_parsed 0 = .ok (.aload_n 0, 1) := by decide +kernel
theorem dX6_parsed_1 : decode cX6_parsed 1 = .ok (.iconst 0, 1) := by decide +kernel
theorem dX6_parsed_2 : decode cX6_parsed 2 = .ok (.putfield 7, 3) := by decide +kernel
theorem dX6_parsed_5 : decode cX6_parsed 5 = .ok (.aload_n 0, 1) := by decide +kernel
theorem dX6_parsed_6 : decode cX6_parsed 6 = .ok (.iconst 0, 1) := by decide +kernel
theorem dX6_parsed_7 : decode cX6_parsed 7 = .ok (.putfield 102, 3) := by decide +kernel
theorem dX6_parsed_10 : decode cX6_parsed 10 = .ok (.aload_n 0, 1) := by decide +kernel
theorem dX6_parsed_11 : decode cX6_parsed 11 = .ok (.iload_n 2, 1) := by decide +kernel
theorem dX6_parsed_12 : decode cX6_parsed 12 = .ok (.iconst 0, 1) := by decide +kernel
theorem dX6_parsed_13 : decode cX6_parsed 13 = .ok (.invokevirtual 251, 3) := by decide +kernel
theorem dX6_parsed_16 : decode cX6_parsed 16 = .ok (.istore_n 3, 1) := by decide +kernel
theorem dX6_parsed_17 : decode cX6_parsed 17 = .ok (.iload_n 3, 1) := by decide +kernel
theorem dX6_parsed_18 : decode cX6_parsed 18 = .ok (.iconst (-1), 1) := by decide +kernel
theorem dX6_parsed_19 : decode cX6_parsed 19 = .ok (.if_icmp .eq 8, 3) := by decide +kernel
theorem dX6_parsed_22 : decode cX6_parsed 22 = .ok (.bipush (-2), 2) := by decide +kernel
theorem dX6_parsed_24 : decode cX6_parsed 24 = .ok (.iload_n 3, 1) := by decide +kernel
theorem dX6_parsed_25 : decode cX6_parsed 25 = .ok (.isub, 1) := by decide +kernel
theorem dX6_parsed_26 : decode cX6_parsed 26 = .ok (.ireturn, 1) := by decide +kernel
theorem dX6_parsed_27 : decode cX6_parsed 27 = .ok (.aload_n 0, 1) := by decide +kernel
theorem dX6_parsed_28 : decode cX6_parsed 28 = .ok (.invokevirtual 254, 3) := by decide +kernel
theorem dX6_parsed_31 : decode cX6_parsed 31 = .ok (.ifCond .ne 5, 3) := by decide +kernel
theorem dX6_parsed_34 : decode cX6_parsed 34 = .ok (.iconst (-1), 1) := by decide +kernel
theorem dX6_parsed_35 : decode cX6_parsed 35 = .ok (.ireturn, 1) := by decide +kernel
theorem dX6_parsed_36 : decode cX6_parsed 36 = .ok (.aload_n 0, 1) := by decide +kernel
theorem dX6_parsed_37 : decode cX6_parsed 37 = .ok (.invokevirtual 258, 3) := by decide +kernel
theorem dX6_parsed_40 : decode cX6_parsed 40 = .ok (.aload_n 0, 1) := by decide +kernel
theorem dX6_parsed_41 : decode cX6_parsed 41 = .ok (.invokevirtual 261, 3) := by decide +kernel
theorem dX6_parsed_44 : decode cX6_parsed 44 = .ok (.aload_n 0, 1) := by decide +kernel
theorem dX6_parsed_45 : decode cX6_parsed 45 = .ok (.getfield 193, 3) := by decide +kernel
theorem dX6_parsed_48 : decode cX6_parsed 48 = .ok (.sipush 200, 3) := by decide +kernel
theorem dX6_parsed_51 : decode cX6_parsed 51 = .ok (.if_icmp .le 5, 3) := by decide +kernel
theorem dX6_parsed_54 : decode cX6_parsed 54 = .ok (.iconst (-1), 1) := by decide +kernel
theorem dX6_parsed_55 : decode cX6_parsed 55 = .ok (.ireturn, 1) := by decide +kernel
theorem dX6_parsed_56 : decode cX6_parsed 56 = .ok (.sipush 402, 3) := by decide +kernel
theorem dX6_parsed_59 : decode cX6_parsed 59 = .ok (.iload_n 1, 1) := by decide +kernel
theorem dX6_parsed_60 : decode cX6_parsed 60 = .ok (.imul, 1) := by decide +kernel
theorem dX6_parsed_61 : decode cX6_parsed 61 = .ok (.istore 4, 2) := by decide +kernel
theorem dX6_parsed_63 : decode cX6_parsed 63 = .ok (.aload_n 0, 1) := by decide +kernel
theorem dX6_parsed_64 : decode cX6_parsed 64 = .ok (.getfield 159, 3) := by decide +kernel
theorem dX6_parsed_67 : decode cX6_parsed 67 = .ok (.istore 5, 2) := by decide +kernel
theorem dX6_parsed_69 : decode cX6_parsed 69 = .ok (.aload_n 0, 1) := by decide +kernel
theorem dX6_parsed_70 : decode cX6_parsed 70 = .ok (.getfield 222, 3) := by decide +kernel
theorem dX6_parsed_73 : decode cX6_parsed 73 = .ok (.iload_n 1, 1) := by decide +kernel
theorem dX6_parsed_74 : decode cX6_parsed 74 = .ok (.aload_n 0, 1) := by decide +kernel
theorem dX6_parsed_75 : decode cX6_parsed 75 = .ok (.getfield 159, 3) := by decide +kernel
theorem dX6_parsed_78 : decode cX6_parsed 78 = .ok (.iconst 1, 1) := by decide +kernel
theorem dX6_parsed_79 : decode cX6_parsed 79 = .ok (.iadd, 1) := by decide +kernel
theorem dX6_parsed_80 : decode cX6_parsed 80 = .ok (.iastore, 1) := by decide +kernel
theorem dX6_parsed_81 : decode cX6_parsed 81 = .ok (.iconst 0, 1) := by decide +kernel
theorem dX6_parsed_82 : decode cX6_parsed 82 = .ok (.istore 6, 2) := by decide +kernel
theorem dX6_parsed_84 : decode cX6_parsed 84 = .ok (.iload 6, 2) := by decide +kernel
theorem dX6_parsed_86 : decode cX6_parsed 86 = .ok (.aload_n 0, 1) := by decide +kernel
theorem dX6_parsed_87 : decode cX6_parsed 87 = .ok (.getfield 159, 3) := by decide +kernel
theorem dX6_parsed_90 : decode cX6_parsed 90 = .ok (.if_icmp .ge 114, 3) := by decide +kernel
theorem dX6_parsed_93 : decode cX6_parsed 93 = .ok (.aload_n 0, 1) := by decide +kernel
theorem dX6_parsed_94 : decode cX6_parsed 94 = .ok (.getfield 225, 3) := by decide +kernel
theorem dX6_parsed_97 : decode cX6_parsed 97 = .ok (.iload 4, 2) := by decide +kernel
theorem dX6_parsed_99 : decode cX6_parsed 99 = .ok (.iload 6, 2) := by decide +kernel
theorem dX6_parsed_101 : decode cX6_parsed 101 = .ok (.iadd, 1) := by decide +kernel
theorem dX6_parsed_102 : decode cX6_parsed 102 = .ok (.iload 6, 2) := by decide +kernel
theorem dX6_parsed_104 : decode cX6_parsed 104 = .ok (.ifCond .ne 10, 3) := by decide +kernel
theorem dX6_parsed_107 : decode cX6_parsed 107 = .ok (.aload_n 0, 1) := by decide +kernel
theorem dX6_parsed_108 : decode cX6_parsed 108 = .ok (.getfield 171, 3) := by decide +kernel
theorem dX6_parsed_111 : decode cX6_parsed 111 = .ok (.goto 19, 3) := by decide +kernel
theorem dX6_parsed_114 : decode cX6_parsed 114 = .ok (.aload_n 0, 1) := by decide +kernel
theorem dX6_parsed_115 : decode cX6_parsed 115 = .ok (.getfield 175, 3) := by decide +kernel
theorem dX6_parsed_118 : decode cX6_parsed 118 = .ok (.iload 6, 2) := by decide +kernel
theorem dX6_parsed_120 : decode cX6_parsed 120 = .ok (.iaload, 1) := by decide +kernel
theorem dX6_parsed_121 : decode cX6_parsed 121 = .ok (.iconst (-1), 1) := by decide +kernel
theorem dX6_parsed_122 : decode cX6_parsed 122 = .ok (.if_icmp .eq 7, 3) := by decide +kernel
theorem dX6_parsed_125 : decode cX6_parsed 125 = .ok (.iconst 1, 1) := by decide +kernel
theorem dX6_parsed_126 : decode cX6_parsed 126 = .ok (.goto 4, 3) := by decide +kernel
theorem dX6_parsed_129 : decode cX6_parsed 129 = .ok (.iconst 0, 1) := by decide +kernel
theorem dX6_parsed_130 : decode cX6_parsed 130 = .ok (.bastore, 1) := by decide +kernel
theorem dX6_parsed_131 : decode cX6_parsed 131 = .ok (.iconst 0, 1) := by decide +kernel
theorem dX6_parsed_132 : decode cX6_parsed 132 = .ok (.istore 7, 2) := by decide +kernel
theorem dX6_parsed_134 : decode cX6_parsed 134 = .ok (.iload 7, 2) := by decide +kernel
theorem dX6_parsed_136 : decode cX6_parsed 136 = .ok (.sipush 128, 3) := by decide +kernel
theorem dX6_parsed_139 : decode cX6_parsed 139 = .ok (.if_icmp .ge 59, 3) := by decide +kernel
theorem dX6_parsed_142 : decode cX6_parsed 142 = .ok (.aload_n 0, 1) := by decide +kernel
theorem dX6_parsed_143 : decode cX6_parsed 143 = .ok (.getfield 181, 3) := by decide +kernel
theorem dX6_parsed_146 : decode cX6_parsed 146 = .ok (.sipush 128, 3) := by decide +kernel
theorem dX6_parsed_149 : decode cX6_parsed 149 = .ok (.iload 6, 2) := by decide +kernel
theorem dX6_parsed_151 : decode cX6_parsed 151 = .ok (.imul, 1) := by decide +kernel
theorem dX6_parsed_152 : decode cX6_parsed 152 = .ok (.iload 7, 2) := by decide +kernel
theorem dX6_parsed_154 : decode cX6_parsed 154 = .ok (.iadd, 1) := by decide +kernel
theorem dX6_parsed_155 : decode cX6_parsed 155 = .ok (.iaload, 1) := by decide +kernel
theorem dX6_parsed_156 : decode cX6_parsed 156 = .ok (.istore 8, 2) := by decide +kernel
theorem dX6_parsed_158 : decode cX6_parsed 158 = .ok (.aload_n 0, 1) := by decide +kernel
theorem dX6_parsed_159 : decode cX6_parsed 159 = .ok (.getfield 219, 3) := by decide +kernel
theorem dX6_parsed_162 : decode cX6_parsed 162 = .ok (.sipush 128, 3) := by decide +kernel
theorem dX6_parsed_165 : decode cX6_parsed 165 = .ok (.iload 4, 2) := by decide +kernel
theorem dX6_parsed_167 : decode cX6_parsed 167 = .ok (.iload 6, 2) := by decide +kernel
theorem dX6_parsed_169 : decode cX6_parsed 169 = .ok (.iadd, 1) := by decide +kernel
theorem dX6_parsed_170 : decode cX6_parsed 170 = .ok (.imul, 1) := by decide +kernel
theorem dX6_parsed_171 : decode cX6_parsed 171 = .ok (.iload 7, 2) := by decide +kernel
theorem dX6_parsed_173 : decode cX6_parsed 173 = .ok (.iadd, 1) := by decide +kernel
theorem dX6_parsed_174 : decode cX6_parsed 174 = .ok (.aload_n 0, 1) := by decide +kernel
theorem dX6_parsed_175 : decode cX6_parsed 175 = .ok (.getfield 184, 3) := by decide +kernel
theorem dX6_parsed_178 : decode cX6_parsed 178 = .ok (.iload 8, 2) := by decide +kernel
theorem dX6_parsed_180 : decode cX6_parsed 180 = .ok (.baload, 1) := by decide +kernel
theorem dX6_parsed_181 : decode cX6_parsed 181 = .ok (.ifCond .eq 8, 3) := by decide +kernel
theorem dX6_parsed_184 : decode cX6_parsed 184 = .ok (.iload 8, 2) := by decide +kernel
theorem dX6_parsed_186 : decode cX6_parsed 186 = .ok (.goto 5, 3) := by decide +kernel
theorem dX6_parsed_189 : decode cX6_parsed 189 = .ok (.iload 5, 2) := by decide +kernel
theorem dX6_parsed_191 : decode cX6_parsed 191 = .ok (.iastore, 1) := by decide +kernel
theorem dX6_parsed_192 : decode cX6_parsed 192 = .ok (.iinc 7 1, 3) := by decide +kernel
theorem dX6_parsed_195 : decode cX6_parsed 195 = .ok (.goto (-61), 3) := by decide +kernel
theorem dX6_parsed_198 : decode cX6_parsed 198 = .ok (.iinc 6 1, 3) := by decide +kernel
theorem dX6_parsed_201 : decode cX6_parsed 201 = .ok (.goto (-117), 3) := by decide +kernel
theorem dX6_parsed_204 : decode cX6_parsed 204 = .ok (.aload_n 0, 1) := by decide +kernel
theorem dX6_parsed_205 : decode cX6_parsed 205 = .ok (.getfield 225, 3) := by decide +kernel
theorem dX6_parsed_208 : decode cX6_parsed 208 = .ok (.iload 4, 2) := by decide +kernel
theorem dX6_parsed_210 : decode cX6_parsed 210 = .ok (.iload 5, 2) := by decide +kernel
theorem dX6_parsed_212 : decode cX6_parsed 212 = .ok (.iadd, 1) := by decide +kernel
theorem dX6_parsed_213 : decode cX6_parsed 213 = .ok (.iconst 0, 1) := by decide +kernel
theorem dX6_parsed_214 : decode cX6_parsed 214 = .ok (.bastore, 1) := by decide +kernel
theorem dX6_parsed_215 : decode cX6_parsed 215 = .ok (.iconst 0, 1) := by decide +kernel
theorem dX6_parsed_216 : decode cX6_parsed 216 = .ok (.istore 6, 2) := by decide +kernel
theorem dX6_parsed_218 : decode cX6_parsed 218 = .ok (.iload 6, 2) := by decide +kernel
theorem dX6_parsed_220 : decode cX6_parsed 220 = .ok (.sipush 128, 3) := by decide +kernel
theorem dX6_parsed_223 : decode cX6_parsed 223 = .ok (.if_icmp .ge 28, 3) := by decide +kernel
theorem dX6_parsed_226 : decode cX6_parsed 226 = .ok (.aload_n 0, 1) := by decide +kernel
theorem dX6_parsed_227 : decode cX6_parsed 227 = .ok (.getfield 219, 3) := by decide +kernel
theorem dX6_parsed_230 : decode cX6_parsed 230 = .ok (.sipush 128, 3) := by decide +kernel
theorem dX6_parsed_233 : decode cX6_parsed 233 = .ok (.iload 4, 2) := by decide +kernel
theorem dX6_parsed_235 : decode cX6_parsed 235 = .ok (.iload 5, 2) := by decide +kernel
theorem dX6_parsed_237 : decode cX6_parsed 237 = .ok (.iadd, 1) := by decide +kernel
theorem dX6_parsed_238 : decode cX6_parsed 238 = .ok (.imul, 1) := by decide +kernel
theorem dX6_parsed_239 : decode cX6_parsed 239 = .ok (.iload 6, 2) := by decide +kernel
theorem dX6_parsed_241 : decode cX6_parsed 241 = .ok (.iadd, 1) := by decide +kernel
theorem dX6_parsed_242 : decode cX6_parsed 242 = .ok (.iload 5, 2) := by decide +kernel
theorem dX6_parsed_244 : decode cX6_parsed 244 = .ok (.iastore, 1) := by decide +kernel
theorem dX6_parsed_245 : decode cX6_parsed 245 = .ok (.iinc 6 1, 3) := by decide +kernel
theorem dX6_parsed_248 : decode cX6_parsed 248 = .ok (.goto (-30), 3) := by decide +kernel
theorem dX6_parsed_251 : decode cX6_parsed 251 = .ok (.aload_n 0, 1) := by decide +kernel
theorem dX6_parsed_252 : decode cX6_parsed 252 = .ok (.getfield 193, 3) := by decide +kernel
theorem dX6_parsed_255 : decode cX6_parsed 255 = .ok (.ireturn, 1) := by decide +kernel
theorem dX6_parse_0 : decode cX6_parse 0 = .ok (.iconst 0, 1) := by decide +kernel
theorem dX6_parse_1 : decode cX6_parse 1 = .ok (.istore_n 3, 1) := by decide +kernel
theorem dX6_parse_2 : decode cX6_parse 2 = .ok (.iconst (-1), 1) := by decide +kernel
theorem dX6_parse_3 : decode cX6_parse 3 = .ok (.istore 4, 2) := by decide +kernel
theorem dX6_parse_5 : decode cX6_parse 5 = .ok (.iconst 0, 1) := by decide +kernel
theorem dX6_parse_6 : decode cX6_parse 6 = .ok (.istore 5, 2) := by decide +kernel
theorem dX6_parse_8 : decode cX6_parse 8 = .ok (.aload_n 0, 1) := by decide +kernel
theorem dX6_parse_9 : decode cX6_parse 9 = .ok (.getfield 81, 3) := by decide +kernel
theorem dX6_parse_12 : decode cX6_parse 12 = .ok (.iconst 0, 1) := by decide +kernel
theorem dX6_parse_13 : decode cX6_parse 13 = .ok (.iconst 0, 1) := by decide +kernel
theorem dX6_parse_14 : decode cX6_parse 14 = .ok (.bastore, 1) := by decide +kernel
theorem dX6_parse_15 : decode cX6_parse 15 = .ok (.aload_n 0, 1) := by decide +kernel
theorem dX6_parse_16 : decode cX6_parse 16 = .ok (.getfield 85, 3) := by decide +kernel
theorem dX6_parse_19 : decode cX6_parse 19 = .ok (.iconst 0, 1) := by decide +kernel
theorem dX6_parse_20 : decode cX6_parse 20 = .ok (.aload_n 0, 1) := by decide +kernel
theorem dX6_parse_21 : decode cX6_parse 21 = .ok (.getfield 7, 3) := by decide +kernel
theorem dX6_parse_24 : decode cX6_parse 24 = .ok (.iastore, 1) := by decide +kernel
theorem dX6_parse_25 : decode cX6_parse 25 = .ok (.aload_n 0, 1) := by decide +kernel
theorem dX6_parse_26 : decode cX6_parse 26 = .ok (.getfield 88, 3) := by decide +kernel
theorem dX6_parse_29 : decode cX6_parse 29 = .ok (.iconst 0, 1) := by decide +kernel
theorem dX6_parse_30 : decode cX6_parse 30 = .ok (.aload_n 0, 1) := by decide +kernel
theorem dX6_parse_31 : decode cX6_parse 31 = .ok (.getfield 7, 3) := by decide +kernel
theorem dX6_parse_34 : decode cX6_parse 34 = .ok (.iastore, 1) := by decide +kernel
theorem dX6_parse_35 : decode cX6_parse 35 = .ok (.aload_n 0, 1) := by decide +kernel
theorem dX6_parse_36 : decode cX6_parse 36 = .ok (.getfield 78, 3) := by decide +kernel
theorem dX6_parse_39 : decode cX6_parse 39 = .ok (.iconst 0, 1) := by decide +kernel
theorem dX6_parse_40 : decode cX6_parse 40 = .ok (.iconst (-1), 1) := by decide +kernel
theorem dX6_parse_41 : decode cX6_parse 41 = .ok (.iastore, 1) := by decide +kernel
theorem dX6_parse_42 : decode cX6_parse 42 = .ok (.aload_n 0, 1) := by decide +kernel
theorem dX6_parse_43 : decode cX6_parse 43 = .ok (.iconst 0, 1) := by decide +kernel
theorem dX6_parse_44 : decode cX6_parse 44 = .ok (.putfield 27, 3) := by decide +kernel
theorem dX6_parse_47 : decode cX6_parse 47 = .ok (.aload_n 0, 1) := by decide +kernel
theorem dX6_parse_48 : decode cX6_parse 48 = .ok (.getfield 27, 3) := by decide +kernel
theorem dX6_parse_51 : decode cX6_parse 51 = .ok (.iload_n 1, 1) := by decide +kernel
theorem dX6_parse_52 : decode cX6_parse 52 = .ok (.if_icmp .ge 494, 3) := by decide +kernel
theorem dX6_parse_55 : decode cX6_parse 55 = .ok (.aload_n 0, 1) := by decide +kernel
theorem dX6_parse_56 : decode cX6_parse 56 = .ok (.getfield 30, 3) := by decide +kernel
theorem dX6_parse_59 : decode cX6_parse 59 = .ok (.aload_n 0, 1) := by decide +kernel
theorem dX6_parse_60 : decode cX6_parse 60 = .ok (.getfield 27, 3) := by decide +kernel
theorem dX6_parse_63 : decode cX6_parse 63 = .ok (.baload, 1) := by decide +kernel
theorem dX6_parse_64 : decode cX6_parse 64 = .ok (.istore 6, 2) := by decide +kernel
theorem dX6_parse_66 : decode cX6_parse 66 = .ok (.iload 6, 2) := by decide +kernel
theorem dX6_parse_68 : decode cX6_parse 68 = .ok (.bipush 40, 2) := by decide +kernel
theorem dX6_parse_70 : decode cX6_parse 70 = .ok (.if_icmp .ne 67, 3) := by decide +kernel
theorem dX6_parse_73 : decode cX6_parse 73 = .ok (.iload_n 3, 1) := by decide +kernel
theorem dX6_parse_74 : decode cX6_parse 74 = .ok (.bipush 40, 2) := by decide +kernel
theorem dX6_parse_76 : decode cX6_parse 76 = .ok (.if_icmp .ne 8, 3) := by decide +kernel
theorem dX6_parse_79 : decode cX6_parse 79 = .ok (.aload_n 0, 1) := by decide +kernel
theorem dX6_parse_80 : decode cX6_parse 80 = .ok (.getfield 27, 3) := by decide +kernel
theorem dX6_parse_83 : decode cX6_parse 83 = .ok (.ireturn, 1) := by decide +kernel
theorem dX6_parse_84 : decode cX6_parse 84 = .ok (.iinc 3 1, 3) := by decide +kernel
theorem dX6_parse_87 : decode cX6_parse 87 = .ok (.aload_n 0, 1) := by decide +kernel
theorem dX6_parse_88 : decode cX6_parse 88 = .ok (.getfield 85, 3) := by decide +kernel
theorem dX6_parse_91 : decode cX6_parse 91 = .ok (.iload_n 3, 1) := by decide +kernel
theorem dX6_parse_92 : decode cX6_parse 92 = .ok (.aload_n 0, 1) := by decide +kernel
theorem dX6_parse_93 : decode cX6_parse 93 = .ok (.getfield 7, 3) := by decide +kernel
theorem dX6_parse_96 : decode cX6_parse 96 = .ok (.iastore, 1) := by decide +kernel
theorem dX6_parse_97 : decode cX6_parse 97 = .ok (.aload_n 0, 1) := by decide +kernel
theorem dX6_parse_98 : decode cX6_parse 98 = .ok (.getfield 88, 3) := by decide +kernel
theorem dX6_parse_101 : decode cX6_parse 101 = .ok (.iload_n 3, 1) := by decide +kernel
theorem dX6_parse_102 : decode cX6_parse 102 = .ok (.aload_n 0, 1) := by decide +kernel
theorem dX6_parse_103 : decode cX6_parse 103 = .ok (.getfield 7, 3) := by decide +kernel
theorem dX6_parse_106 : decode cX6_parse 106 = .ok (.iastore, 1) := by decide +kernel
theorem dX6_parse_107 : decode cX6_parse 107 = .ok (.aload_n 0, 1) := by decide +kernel
theorem dX6_parse_108 : decode cX6_parse 108 = .ok (.getfield 78, 3) := by decide +kernel
theorem dX6_parse_111 : decode cX6_parse 111 = .ok (.iload_n 3, 1) := by decide +kernel
theorem dX6_parse_112 : decode cX6_parse 112 = .ok (.iconst (-1), 1) := by decide +kernel
theorem dX6_parse_113 : decode cX6_parse 113 = .ok (.iastore, 1) := by decide +kernel
theorem dX6_parse_114 : decode cX6_parse 114 = .ok (.aload_n 0, 1) := by decide +kernel
theorem dX6_parse_115 : decode cX6_parse 115 = .ok (.getfield 81, 3) := by decide +kernel
theorem dX6_parse_118 : decode cX6_parse 118 = .ok (.iload_n 3, 1) := by decide +kernel
theorem dX6_parse_119 : decode cX6_parse 119 = .ok (.iconst 0, 1) := by decide +kernel
theorem dX6_parse_120 : decode cX6_parse 120 = .ok (.bastore, 1) := by decide +kernel
theorem dX6_parse_121 : decode cX6_parse 121 = .ok (.iconst (-1), 1) := by decide +kernel
theorem dX6_parse_122 : decode cX6_parse 122 = .ok (.istore 4, 2) := by decide +kernel
theorem dX6_parse_124 : decode cX6_parse 124 = .ok (.aload_n 0, 1) := by decide +kernel
theorem dX6_parse_125 : decode cX6_parse 125 = .ok (.dup, 1) := by decide +kernel
theorem dX6_parse_126 : decode cX6_parse 126 = .ok (.getfield 27, 3) := by decide +kernel
theorem dX6_parse_129 : decode cX6_parse 129 = .ok (.iconst 1, 1) := by decide +kernel
theorem dX6_parse_130 : decode cX6_parse 130 = .ok (.iadd, 1) := by decide +kernel
theorem dX6_parse_131 : decode cX6_parse 131 = .ok (.putfield 27, 3) := by decide +kernel
theorem dX6_parse_134 : decode cX6_parse 134 = .ok (.goto 409, 3) := by decide +kernel
theorem dX6_parse_137 : decode cX6_parse 137 = .ok (.iload 6, 2) := by decide +kernel
theorem dX6_parse_139 : decode cX6_parse 139 = .ok (.bipush 41, 2) := by decide +kernel
theorem dX6_parse_141 : decode cX6_parse 141 = .ok (.if_icmp .ne 44, 3) := by decide +kernel
theorem dX6_parse_144 : decode cX6_parse 144 = .ok (.iload_n 3, 1) := by decide +kernel
theorem dX6_parse_145 : decode cX6_parse 145 = .ok (.ifCond .ne 8, 3) := by decide +kernel
theorem dX6_parse_148 : decode cX6_parse 148 = .ok (.aload_n 0, 1) := by decide +kernel
theorem dX6_parse_149 : decode cX6_parse 149 = .ok (.getfield 27, 3) := by decide +kernel
theorem dX6_parse_152 : decode cX6_parse 152 = .ok (.ireturn, 1) := by decide +kernel
theorem dX6_parse_153 : decode cX6_parse 153 = .ok (.aload_n 0, 1) := by decide +kernel
theorem dX6_parse_154 : decode cX6_parse 154 = .ok (.iload_n 3, 1) := by decide +kernel
theorem dX6_parse_155 : decode cX6_parse 155 = .ok (.invokevirtual 91, 3) := by decide +kernel
theorem dX6_parse_158 : decode cX6_parse 158 = .ok (.aload_n 0, 1) := by decide +kernel
theorem dX6_parse_159 : decode cX6_parse 159 = .ok (.getfield 85, 3) := by decide +kernel
theorem dX6_parse_162 : decode cX6_parse 162 = .ok (.iload_n 3, 1) := by decide +kernel
theorem dX6_parse_163 : decode cX6_parse 163 = .ok (.iaload, 1) := by decide +kernel
theorem dX6_parse_164 : decode cX6_parse 164 = .ok (.istore 4, 2) := by decide +kernel
theorem dX6_parse_166 : decode cX6_parse 166 = .ok (.iconst 0, 1) := by decide +kernel
theorem dX6_parse_167 : decode cX6_parse 167 = .ok (.istore 5, 2) := by decide +kernel
theorem dX6_parse_169 : decode cX6_parse 169 = .ok (.iinc 3 (-1), 3) := by decide +kernel
theorem dX6_parse_172 : decode cX6_parse 172 = .ok (.aload_n 0, 1) := by decide +kernel
theorem dX6_parse_173 : decode cX6_parse 173 = .ok (.dup, 1) := by decide +kernel
theorem dX6_parse_174 : decode cX6_parse 174 = .ok (.getfield 27, 3) := by decide +kernel
theorem dX6_parse_177 : decode cX6_parse 177 = .ok (.iconst 1, 1) := by decide +kernel
theorem dX6_parse_178 : decode cX6_parse 178 = .ok (.iadd, 1) := by decide +kernel
theorem dX6_parse_179 : decode cX6_parse 179 = .ok (.putfield 27, 3) := by decide +kernel
theorem dX6_parse_182 : decode cX6_parse 182 = .ok (.goto 361, 3) := by decide +kernel
theorem dX6_parse_185 : decode cX6_parse 185 = .ok (.iload 6, 2) := by decide +kernel
theorem dX6_parse_187 : decode cX6_parse 187 = .ok (.bipush 124, 2) := by decide +kernel
theorem dX6_parse_189 : decode cX6_parse 189 = .ok (.if_icmp .ne 135, 3) := by decide +kernel
theorem dX6_parse_192 : decode cX6_parse 192 = .ok (.aload_n 0, 1) := by decide +kernel
theorem dX6_parse_193 : decode cX6_parse 193 = .ok (.getfield 7, 3) := by decide +kernel
theorem dX6_parse_196 : decode cX6_parse 196 = .ok (.aload_n 0, 1) := by decide +kernel
theorem dX6_parse_197 : decode cX6_parse 197 = .ok (.getfield 88, 3) := by decide +kernel
theorem dX6_parse_200 : decode cX6_parse 200 = .ok (.iload_n 3, 1) := by decide +kernel
theorem dX6_parse_201 : decode cX6_parse 201 = .ok (.iaload, 1) := by decide +kernel
theorem dX6_parse_202 : decode cX6_parse 202 = .ok (.if_icmp .ne 7, 3) := by decide +kernel
theorem dX6_parse_205 : decode cX6_parse 205 = .ok (.iconst 1, 1) := by decide +kernel
theorem dX6_parse_206 : decode cX6_parse 206 = .ok (.goto 4, 3) := by decide +kernel
theorem dX6_parse_209 : decode cX6_parse 209 = .ok (.iconst 0, 1) := by decide +kernel
theorem dX6_parse_210 : decode cX6_parse 210 = .ok (.istore 7, 2) := by decide +kernel
theorem dX6_parse_212 : decode cX6_parse 212 = .ok (.iload 7, 2) := by decide +kernel
theorem dX6_parse_214 : decode cX6_parse 214 = .ok (.ifCond .eq 12, 3) := by decide +kernel
theorem dX6_parse_217 : decode cX6_parse 217 = .ok (.aload_n 0, 1) := by decide +kernel
theorem dX6_parse_218 : decode cX6_parse 218 = .ok (.getfield 81, 3) := by decide +kernel
theorem dX6_parse_221 : decode cX6_parse 221 = .ok (.iload_n 3, 1) := by decide +kernel
theorem dX6_parse_222 : decode cX6_parse 222 = .ok (.baload, 1) := by decide +kernel
theorem dX6_parse_223 : decode cX6_parse 223 = .ok (.ifCond .ne 60, 3) := by decide +kernel
theorem dX6_parse_226 : decode cX6_parse 226 = .ok (.aload_n 0, 1) := by decide +kernel
theorem dX6_parse_227 : decode cX6_parse 227 = .ok (.aload_n 0, 1) := by decide +kernel
theorem dX6_parse_228 : decode cX6_parse 228 = .ok (.getfield 88, 3) := by decide +kernel
theorem dX6_parse_231 : decode cX6_parse 231 = .ok (.iload_n 3, 1) := by decide +kernel
theorem dX6_parse_232 : decode cX6_parse 232 = .ok (.iaload, 1) := by decide +kernel
theorem dX6_parse_233 : decode cX6_parse 233 = .ok (.iconst 1, 1) := by decide +kernel
theorem dX6_parse_234 : decode cX6_parse 234 = .ok (.aload_n 0, 1) := by decide +kernel
theorem dX6_parse_235 : decode cX6_parse 235 = .ok (.getfield 7, 3) := by decide +kernel
theorem dX6_parse_238 : decode cX6_parse 238 = .ok (.aload_n 0, 1) := by decide +kernel
theorem dX6_parse_239 : decode cX6_parse 239 = .ok (.getfield 88, 3) := by decide +kernel
theorem dX6_parse_242 : decode cX6_parse 242 = .ok (.iload_n 3, 1) := by decide +kernel
theorem dX6_parse_243 : decode cX6_parse 243 = .ok (.iaload, 1) := by decide +kernel
theorem dX6_parse_244 : decode cX6_parse 244 = .ok (.isub, 1) := by decide +kernel
theorem dX6_parse_245 : decode cX6_parse 245 = .ok (.iconst 2, 1) := by decide +kernel
theorem dX6_parse_246 : decode cX6_parse 246 = .ok (.iadd, 1) := by decide +kernel
theorem dX6_parse_247 : decode cX6_parse 247 = .ok (.invokevirtual 94, 3) := by decide +kernel
theorem dX6_parse_250 : decode cX6_parse 250 = .ok (.aload_n 0, 1) := by decide +kernel
theorem dX6_parse_251 : decode cX6_parse 251 = .ok (.iconst 2, 1) := by decide +kernel
theorem dX6_parse_252 : decode cX6_parse 252 = .ok (.aload_n 0, 1) := by decide +kernel
theorem dX6_parse_253 : decode cX6_parse 253 = .ok (.getfield 78, 3) := by decide +kernel
theorem dX6_parse_256 : decode cX6_parse 256 = .ok (.iload_n 3, 1) := by decide +kernel
theorem dX6_parse_257 : decode cX6_parse 257 = .ok (.iaload, 1) := by decide +kernel
theorem dX6_parse_258 : decode cX6_parse 258 = .ok (.invokevirtual 98, 3) := by decide +kernel
theorem dX6_parse_261 : decode cX6_parse 261 = .ok (.aload_n 0, 1) := by decide +kernel
theorem dX6_parse_262 : decode cX6_parse 262 = .ok (.getfield 78, 3) := by decide +kernel
theorem dX6_parse_265 : decode cX6_parse 265 = .ok (.iload_n 3, 1) := by decide +kernel
theorem dX6_parse_266 : decode cX6_parse 266 = .ok (.aload_n 0, 1) := by decide +kernel
theorem dX6_parse_267 : decode cX6_parse 267 = .ok (.getfield 7, 3) := by decide +kernel
theorem dX6_parse_270 : decode cX6_parse 270 = .ok (.iconst 1, 1) := by decide +kernel
theorem dX6_parse_271 : decode cX6_parse 271 = .ok (.isub, 1) := by decide +kernel
theorem dX6_parse_272 : decode cX6_parse 272 = .ok (.iastore, 1) := by decide +kernel
theorem dX6_parse_273 : decode cX6_parse 273 = .ok (.aload_n 0, 1) := by decide +kernel
theorem dX6_parse_274 : decode cX6_parse 274 = .ok (.getfield 88, 3) := by decide +kernel
theorem dX6_parse_277 : decode cX6_parse 277 = .ok (.iload_n 3, 1) := by decide +kernel
theorem dX6_parse_278 : decode cX6_parse 278 = .ok (.aload_n 0, 1) := by decide +kernel
theorem dX6_parse_279 : decode cX6_parse 279 = .ok (.getfield 7, 3) := by decide +kernel
theorem dX6_parse_282 : decode cX6_parse 282 = .ok (.iastore, 1) := by decide +kernel
theorem dX6_parse_283 : decode cX6_parse 283 = .ok (.aload_n 0, 1) := by decide +kernel
theorem dX6_parse_284 : decode cX6_parse 284 = .ok (.getfield 81, 3) := by decide +kernel
theorem dX6_parse_287 : decode cX6_parse 287 = .ok (.iload_n 3, 1) := by decide +kernel
theorem dX6_parse_288 : decode cX6_parse 288 = .ok (.aload_n 0, 1) := by decide +kernel
theorem dX6_parse_289 : decode cX6_parse 289 = .ok (.getfield 81, 3) := by decide +kernel
theorem dX6_parse_292 : decode cX6_parse 292 = .ok (.iload_n 3, 1) := by decide +kernel
theorem dX6_parse_293 : decode cX6_parse 293 = .ok (.baload, 1) := by decide +kernel
theorem dX6_parse_294 : decode cX6_parse 294 = .ok (.ifCond .ne 8, 3) := by decide +kernel
theorem dX6_parse_297 : decode cX6_parse 297 = .ok (.iload 7, 2) := by decide +kernel
theorem dX6_parse_299 : decode cX6_parse 299 = .ok (.ifCond .eq 7, 3) := by decide +kernel
theorem dX6_parse_302 : decode cX6_parse 302 = .ok (.iconst 1, 1) := by decide +kernel
theorem dX6_parse_303 : decode cX6_parse 303 = .ok (.goto 4, 3) := by decide +kernel
theorem dX6_parse_306 : decode cX6_parse 306 = .ok (.iconst 0, 1) := by decide +kernel
theorem dX6_parse_307 : decode cX6_parse 307 = .ok (.bastore, 1) := by decide +kernel
theorem dX6_parse_308 : decode cX6_parse 308 = .ok (.iconst (-1), 1) := by decide +kernel
theorem dX6_parse_309 : decode cX6_parse 309 = .ok (.istore 4, 2) := by decide +kernel
theorem dX6_parse_311 : decode cX6_parse 311 = .ok (.aload_n 0, 1) := by decide +kernel
theorem dX6_parse_312 : decode cX6_parse 312 = .ok (.dup, 1) := by decide +kernel
theorem dX6_parse_313 : decode cX6_parse 313 = .ok (.getfield 27, 3) := by decide +kernel
theorem dX6_parse_316 : decode cX6_parse 316 = .ok (.iconst 1, 1) := by decide +kernel
theorem dX6_parse_317 : decode cX6_parse 317 = .ok (.iadd, 1) := by decide +kernel
theorem dX6_parse_318 : decode cX6_parse 318 = .ok (.putfield 27, 3) := by decide +kernel
theorem dX6_parse_321 : decode cX6_parse 321 = .ok (.goto 222, 3) := by decide +kernel
theorem dX6_parse_324 : decode cX6_parse 324 = .ok (.iload 6, 2) := by decide +kernel
theorem dX6_parse_326 : decode cX6_parse 326 = .ok (.bipush 42, 2) := by decide +kernel
theorem dX6_parse_328 : decode cX6_parse 328 = .ok (.if_icmp .eq 17, 3) := by decide +kernel
theorem dX6_parse_331 : decode cX6_parse 331 = .ok (.iload 6, 2) := by decide +kernel
theorem dX6_parse_333 : decode cX6_parse 333 = .ok (.bipush 43, 2) := by decide +kernel
theorem dX6_parse_335 : decode cX6_parse 335 = .ok (.if_icmp .eq 10, 3) := by decide +kernel
theorem dX6_parse_338 : decode cX6_parse 338 = .ok (.iload 6, 2) := by decide +kernel
theorem dX6_parse_340 : decode cX6_parse 340 = .ok (.bipush 63, 2) := by decide +kernel
theorem dX6_parse_342 : decode cX6_parse 342 = .ok (.if_icmp .ne 124, 3) := by decide +kernel
theorem dX6_parse_345 : decode cX6_parse 345 = .ok (.iload 4, 2) := by decide +kernel
theorem dX6_parse_347 : decode cX6_parse 347 = .ok (.iconst (-1), 1) := by decide +kernel
theorem dX6_parse_348 : decode cX6_parse 348 = .ok (.if_icmp .ne 8, 3) := by decide +kernel
theorem dX6_parse_351 : decode cX6_parse 351 = .ok (.aload_n 0, 1) := by decide +kernel
theorem dX6_parse_352 : decode cX6_parse 352 = .ok (.getfield 27, 3) := by decide +kernel
theorem dX6_parse_355 : decode cX6_parse 355 = .ok (.ireturn, 1) := by decide +kernel
theorem dX6_parse_356 : decode cX6_parse 356 = .ok (.aload_n 0, 1) := by decide +kernel
theorem dX6_parse_357 : decode cX6_parse 357 = .ok (.getfield 7, 3) := by decide +kernel
theorem dX6_parse_360 : decode cX6_parse 360 = .ok (.iload 4, 2) := by decide +kernel
theorem dX6_parse_362 : decode cX6_parse 362 = .ok (.isub, 1) := by decide +kernel
theorem dX6_parse_363 : decode cX6_parse 363 = .ok (.istore 7, 2) := by decide +kernel
theorem dX6_parse_365 : decode cX6_parse 365 = .ok (.iload 5, 2) := by decide +kernel
theorem dX6_parse_367 : decode cX6_parse 367 = .ok (.bipush 42, 2) := by decide +kernel
theorem dX6_parse_369 : decode cX6_parse 369 = .ok (.if_icmp .eq 84, 3) := by decide +kernel
theorem dX6_parse_372 : decode cX6_parse 372 = .ok (.iload 5, 2) := by decide +kernel
theorem dX6_parse_374 : decode cX6_parse 374 = .ok (.iload 6, 2) := by decide +kernel
theorem dX6_parse_376 : decode cX6_parse 376 = .ok (.if_icmp .eq 77, 3) := by decide +kernel
theorem dX6_parse_379 : decode cX6_parse 379 = .ok (.iload 6, 2) := by decide +kernel
theorem dX6_parse_381 : decode cX6_parse 381 = .ok (.bipush 43, 2) := by decide +kernel
theorem dX6_parse_383 : decode cX6_parse 383 = .ok (.if_icmp .ne 14, 3) := by decide +kernel
theorem dX6_parse_386 : decode cX6_parse 386 = .ok (.aload_n 0, 1) := by decide +kernel
theorem dX6_parse_387 : decode cX6_parse 387 = .ok (.iconst 1, 1) := by decide +kernel
theorem dX6_parse_388 : decode cX6_parse 388 = .ok (.iload 7, 2) := by decide +kernel
theorem dX6_parse_390 : decode cX6_parse 390 = .ok (.ineg, 1) := by decide +kernel
theorem dX6_parse_391 : decode cX6_parse 391 = .ok (.invokevirtual 98, 3) := by decide +kernel
theorem dX6_parse_394 : decode cX6_parse 394 = .ok (.goto 45, 3) := by decide +kernel
theorem dX6_parse_397 : decode cX6_parse 397 = .ok (.aload_n 0, 1) := by decide +kernel
theorem dX6_parse_398 : decode cX6_parse 398 = .ok (.iload 4, 2) := by decide +kernel
theorem dX6_parse_400 : decode cX6_parse 400 = .ok (.iconst 1, 1) := by decide +kernel
theorem dX6_parse_401 : decode cX6_parse 401 = .ok (.iload 6, 2) := by decide +kernel
theorem dX6_parse_403 : decode cX6_parse 403 = .ok (.bipush 42, 2) := by decide +kernel
theorem dX6_parse_405 : decode cX6_parse 405 = .ok (.if_icmp .ne 10, 3) := by decide +kernel
theorem dX6_parse_408 : decode cX6_parse 408 = .ok (.iload 7, 2) := by decide +kernel
theorem dX6_parse_410 : decode cX6_parse 410 = .ok (.iconst 2, 1) := by decide +kernel
theorem dX6_parse_411 : decode cX6_parse 411 = .ok (.iadd, 1) := by decide +kernel
theorem dX6_parse_412 : decode cX6_parse 412 = .ok (.goto 7, 3) := by decide +kernel
theorem dX6_parse_415 : decode cX6_parse 415 = .ok (.iload 7, 2) := by decide +kernel
theorem dX6_parse_417 : decode cX6_parse 417 = .ok (.iconst 1, 1) := by decide +kernel
theorem dX6_parse_418 : decode cX6_parse 418 = .ok (.iadd, 1) := by decide +kernel
theorem dX6_parse_419 : decode cX6_parse 419 = .ok (.invokevirtual 94, 3) := by decide +kernel
theorem dX6_parse_422 : decode cX6_parse 422 = .ok (.iload 6, 2) := by decide +kernel
theorem dX6_parse_424 : decode cX6_parse 424 = .ok (.bipush 42, 2) := by decide +kernel
theorem dX6_parse_426 : decode cX6_parse 426 = .ok (.if_icmp .ne 13, 3) := by decide +kernel
theorem dX6_parse_429 : decode cX6_parse 429 = .ok (.aload_n 0, 1) := by decide +kernel
theorem dX6_parse_430 : decode cX6_parse 430 = .ok (.iconst 2, 1) := by decide +kernel
theorem dX6_parse_431 : decode cX6_parse 431 = .ok (.iload 7, 2) := by decide +kernel
theorem dX6_parse_433 : decode cX6_parse 433 = .ok (.ineg, 1) := by decide +kernel
theorem dX6_parse_434 : decode cX6_parse 434 = .ok (.iconst 1, 1) := by decide +kernel
theorem dX6_parse_435 : decode cX6_parse 435 = .ok (.isub, 1) := by decide +kernel
theorem dX6_parse_436 : decode cX6_parse 436 = .ok (.invokevirtual 98, 3) := by decide +kernel
theorem dX6_parse_439 : decode cX6_parse 439 = .ok (.iload 5, 2) := by decide +kernel
theorem dX6_parse_441 : decode cX6_parse 441 = .ok (.ifCond .ne 8, 3) := by decide +kernel
theorem dX6_parse_444 : decode cX6_parse 444 = .ok (.iload 6, 2) := by decide +kernel
theorem dX6_parse_446 : decode cX6_parse 446 = .ok (.goto 5, 3) := by decide +kernel
theorem dX6_parse_449 : decode cX6_parse 449 = .ok (.bipush 42, 2) := by decide +kernel
theorem dX6_parse_451 : decode cX6_parse 451 = .ok (.istore 5, 2) := by decide +kernel
theorem dX6_parse_453 : decode cX6_parse 453 = .ok (.aload_n 0, 1) := by decide +kernel
theorem dX6_parse_454 : decode cX6_parse 454 = .ok (.dup, 1) := by decide +kernel
theorem dX6_parse_455 : decode cX6_parse 455 = .ok (.getfield 27, 3) := by decide +kernel
theorem dX6_parse_458 : decode cX6_parse 458 = .ok (.iconst 1, 1) := by decide +kernel
theorem dX6_parse_459 : decode cX6_parse 459 = .ok (.iadd, 1) := by decide +kernel
theorem dX6_parse_460 : decode cX6_parse 460 = .ok (.putfield 27, 3) := by decide +kernel
theorem dX6_parse_463 : decode cX6_parse 463 = .ok (.goto 80, 3) := by decide +kernel
theorem dX6_parse_466 : decode cX6_parse 466 = .ok (.aload_n 0, 1) := by decide +kernel
theorem dX6_parse_467 : decode cX6_parse 467 = .ok (.getfield 102, 3) := by decide +kernel
theorem dX6_parse_470 : decode cX6_parse 470 = .ok (.sipush 400, 3) := by decide +kernel
theorem dX6_parse_473 : decode cX6_parse 473 = .ok (.if_icmp .eq 11, 3) := by decide +kernel
theorem dX6_parse_476 : decode cX6_parse 476 = .ok (.aload_n 0, 1) := by decide +kernel
theorem dX6_parse_477 : decode cX6_parse 477 = .ok (.iload_n 1, 1) := by decide +kernel
theorem dX6_parse_478 : decode cX6_parse 478 = .ok (.invokevirtual 105, 3) := by decide +kernel
theorem dX6_parse_481 : decode cX6_parse 481 = .ok (.ifCond .ne 8, 3) := by decide +kernel
theorem dX6_parse_484 : decode cX6_parse 484 = .ok (.aload_n 0, 1) := by decide +kernel
theorem dX6_parse_485 : decode cX6_parse 485 = .ok (.getfield 27, 3) := by decide +kernel
theorem dX6_parse_488 : decode cX6_parse 488 = .ok (.ireturn, 1) := by decide +kernel
theorem dX6_parse_489 : decode cX6_parse 489 = .ok (.aload_n 0, 1) := by decide +kernel
theorem dX6_parse_490 : decode cX6_parse 490 = .ok (.getfield 7, 3) := by decide +kernel
theorem dX6_parse_493 : decode cX6_parse 493 = .ok (.istore 4, 2) := by decide +kernel
theorem dX6_parse_495 : decode cX6_parse 495 = .ok (.iconst 0, 1) := by decide +kernel
theorem dX6_parse_496 : decode cX6_parse 496 = .ok (.istore 5, 2) := by decide +kernel
theorem dX6_parse_498 : decode cX6_parse 498 = .ok (.aload_n 0, 1) := by decide +kernel
theorem dX6_parse_499 : decode cX6_parse 499 = .ok (.getfield 108, 3) := by decide +kernel
theorem dX6_parse_502 : decode cX6_parse 502 = .ok (.aload_n 0, 1) := by decide +kernel
theorem dX6_parse_503 : decode cX6_parse 503 = .ok (.getfield 102, 3) := by decide +kernel
theorem dX6_parse_506 : decode cX6_parse 506 = .ok (.aload_n 0, 1) := by decide +kernel
theorem dX6_parse_507 : decode cX6_parse 507 = .ok (.getfield 49, 3) := by decide +kernel
theorem dX6_parse_510 : decode cX6_parse 510 = .ok (.lastore, 1) := by decide +kernel
theorem dX6_parse_511 : decode cX6_parse 511 = .ok (.aload_n 0, 1) := by decide +kernel
theorem dX6_parse_512 : decode cX6_parse 512 = .ok (.getfield 112, 3) := by decide +kernel
theorem dX6_parse_515 : decode cX6_parse 515 = .ok (.aload_n 0, 1) := by decide +kernel
theorem dX6_parse_516 : decode cX6_parse 516 = .ok (.getfield 102, 3) := by decide +kernel
theorem dX6_parse_519 : decode cX6_parse 519 = .ok (.aload_n 0, 1) := by decide +kernel
theorem dX6_parse_520 : decode cX6_parse 520 = .ok (.getfield 53, 3) := by decide +kernel
theorem dX6_parse_523 : decode cX6_parse 523 = .ok (.lastore, 1) := by decide +kernel
theorem dX6_parse_524 : decode cX6_parse 524 = .ok (.aload_n 0, 1) := by decide +kernel
theorem dX6_parse_525 : decode cX6_parse 525 = .ok (.iconst 0, 1) := by decide +kernel
theorem dX6_parse_526 : decode cX6_parse 526 = .ok (.aload_n 0, 1) := by decide +kernel
theorem dX6_parse_527 : decode cX6_parse 527 = .ok (.getfield 102, 3) := by decide +kernel
theorem dX6_parse_530 : decode cX6_parse 530 = .ok (.invokevirtual 98, 3) := by decide +kernel
theorem dX6_parse_533 : decode cX6_parse 533 = .ok (.aload_n 0, 1) := by decide +kernel
theorem dX6_parse_534 : decode cX6_parse 534 = .ok (.dup, 1) := by decide +kernel
theorem dX6_parse_535 : decode cX6_parse 535 = .ok (.getfield 102, 3) := by decide +kernel
theorem dX6_parse_538 : decode cX6_parse 538 = .ok (.iconst 1, 1) := by decide +kernel
theorem dX6_parse_539 : decode cX6_parse 539 = .ok (.iadd, 1) := by decide +kernel
theorem dX6_parse_540 : decode cX6_parse 540 = .ok (.putfield 102, 3) := by decide +kernel
theorem dX6_parse_543 : decode cX6_parse 543 = .ok (.goto (-496), 3) := by decide +kernel
theorem dX6_parse_546 : decode cX6_parse 546 = .ok (.iload_n 3, 1) := by decide +kernel
theorem dX6_parse_547 : decode cX6_parse 547 = .ok (.ifCond .le 5, 3) := by decide +kernel
theorem dX6_parse_550 : decode cX6_parse 550 = .ok (.iload_n 1, 1) := by decide +kernel
theorem dX6_parse_551 : decode cX6_parse 551 = .ok (.ireturn, 1) := by decide +kernel
theorem dX6_parse_552 : decode cX6_parse 552 = .ok (.aload_n 0, 1) := by decide +kernel
theorem dX6_parse_553 : decode cX6_parse 553 = .ok (.iconst 0, 1) := by decide +kernel
theorem dX6_parse_554 : decode cX6_parse 554 = .ok (.invokevirtual 91, 3) := by decide +kernel
theorem dX6_parse_557 : decode cX6_parse 557 = .ok (.aload_n 0, 1) := by decide +kernel
theorem dX6_parse_558 : decode cX6_parse 558 = .ok (.iconst 3, 1) := by decide +kernel
theorem dX6_parse_559 : decode cX6_parse 559 = .ok (.iload_n 2, 1) := by decide +kernel
theorem dX6_parse_560 : decode cX6_parse 560 = .ok (.invokevirtual 98, 3) := by decide +kernel
theorem dX6_parse_563 : decode cX6_parse 563 = .ok (.iconst (-1), 1) := by decide +kernel
theorem dX6_parse_564 : decode cX6_parse 564 = .ok (.ireturn, 1) := by decide +kernel
theorem dX6_land_0 : decode cX6_land 0 = .ok (.aload_n 0, 1) := by decide +kernel
theorem dX6_land_1 : decode cX6_land 1 = .ok (.getfield 78, 3) := by decide +kernel
theorem dX6_land_4 : decode cX6_land 4 = .ok (.iload_n 1, 1) := by decide +kernel
theorem dX6_land_5 : decode cX6_land 5 = .ok (.iaload, 1) := by decide +kernel
theorem dX6_land_6 : decode cX6_land 6 = .ok (.istore_n 2, 1) := by decide +kernel
theorem dX6_land_7 : decode cX6_land 7 = .ok (.iload_n 2, 1) := by decide +kernel
theorem dX6_land_8 : decode cX6_land 8 = .ok (.iconst (-1), 1) := by decide +kernel
theorem dX6_land_9 : decode cX6_land 9 = .ok (.if_icmp .eq 27, 3) := by decide +kernel
theorem dX6_land_12 : decode cX6_land 12 = .ok (.aload_n 0, 1) := by decide +kernel
theorem dX6_land_13 : decode cX6_land 13 = .ok (.getfield 20, 3) := by decide +kernel
theorem dX6_land_16 : decode cX6_land 16 = .ok (.iload_n 2, 1) := by decide +kernel
theorem dX6_land_17 : decode cX6_land 17 = .ok (.iaload, 1) := by decide +kernel
theorem dX6_land_18 : decode cX6_land 18 = .ok (.istore_n 3, 1) := by decide +kernel
theorem dX6_land_19 : decode cX6_land 19 = .ok (.aload_n 0, 1) := by decide +kernel
theorem dX6_land_20 : decode cX6_land 20 = .ok (.getfield 20, 3) := by decide +kernel
theorem dX6_land_23 : decode cX6_land 23 = .ok (.iload_n 2, 1) := by decide +kernel
theorem dX6_land_24 : decode cX6_land 24 = .ok (.aload_n 0, 1) := by decide +kernel
theorem dX6_land_25 : decode cX6_land 25 = .ok (.getfield 7, 3) := by decide +kernel
theorem dX6_land_28 : decode cX6_land 28 = .ok (.iload_n 2, 1) := by decide +kernel
theorem dX6_land_29 : decode cX6_land 29 = .ok (.isub, 1) := by decide +kernel
theorem dX6_land_30 : decode cX6_land 30 = .ok (.iastore, 1) := by decide +kernel
theorem dX6_land_31 : decode cX6_land 31 = .ok (.iload_n 3, 1) := by decide +kernel
theorem dX6_land_32 : decode cX6_land 32 = .ok (.istore_n 2, 1) := by decide +kernel
theorem dX6_land_33 : decode cX6_land 33 = .ok (.goto (-26), 3) := by decide +kernel
theorem dX6_land_36 : decode cX6_land 36 = .ok (.return_, 1) := by decide +kernel
theorem dX6_insert_0 : decode cX6_insert 0 = .ok (.aload_n 0, 1) := by decide +kernel
theorem dX6_insert_1 : decode cX6_insert 1 = .ok (.invokevirtual 23, 3) := by decide +kernel
theorem dX6_insert_4 : decode cX6_insert 4 = .ok (.aload_n 0, 1) := by decide +kernel
theorem dX6_insert_5 : decode cX6_insert 5 = .ok (.getfield 7, 3) := by decide +kernel
theorem dX6_insert_8 : decode cX6_insert 8 = .ok (.istore 4, 2) := by decide +kernel
theorem dX6_insert_10 : decode cX6_insert 10 = .ok (.iload 4, 2) := by decide +kernel
theorem dX6_insert_12 : decode cX6_insert 12 = .ok (.iload_n 1, 1) := by decide +kernel
theorem dX6_insert_13 : decode cX6_insert 13 = .ok (.if_icmp .le 41, 3) := by decide +kernel
theorem dX6_insert_16 : decode cX6_insert 16 = .ok (.aload_n 0, 1) := by decide +kernel
theorem dX6_insert_17 : decode cX6_insert 17 = .ok (.getfield 10, 3) := by decide +kernel
theorem dX6_insert_20 : decode cX6_insert 20 = .ok (.iload 4, 2) := by decide +kernel
theorem dX6_insert_22 : decode cX6_insert 22 = .ok (.aload_n 0, 1) := by decide +kernel
theorem dX6_insert_23 : decode cX6_insert 23 = .ok (.getfield 10, 3) := by decide +kernel
theorem dX6_insert_26 : decode cX6_insert 26 = .ok (.iload 4, 2) := by decide +kernel
theorem dX6_insert_28 : decode cX6_insert 28 = .ok (.iconst 1, 1) := by decide +kernel
theorem dX6_insert_29 : decode cX6_insert 29 = .ok (.isub, 1) := by decide +kernel
theorem dX6_insert_30 : decode cX6_insert 30 = .ok (.iaload, 1) := by decide +kernel
theorem dX6_insert_31 : decode cX6_insert 31 = .ok (.iastore, 1) := by decide +kernel
theorem dX6_insert_32 : decode cX6_insert 32 = .ok (.aload_n 0, 1) := by decide +kernel
theorem dX6_insert_33 : decode cX6_insert 33 = .ok (.getfield 20, 3) := by decide +kernel
theorem dX6_insert_36 : decode cX6_insert 36 = .ok (.iload 4, 2) := by decide +kernel
theorem dX6_insert_38 : decode cX6_insert 38 = .ok (.aload_n 0, 1) := by decide +kernel
theorem dX6_insert_39 : decode cX6_insert 39 = .ok (.getfield 20, 3) := by decide +kernel
theorem dX6_insert_42 : decode cX6_insert 42 = .ok (.iload 4, 2) := by decide +kernel
theorem dX6_insert_44 : decode cX6_insert 44 = .ok (.iconst 1, 1) := by decide +kernel
theorem dX6_insert_45 : decode cX6_insert 45 = .ok (.isub, 1) := by decide +kernel
theorem dX6_insert_46 : decode cX6_insert 46 = .ok (.iaload, 1) := by decide +kernel
theorem dX6_insert_47 : decode cX6_insert 47 = .ok (.iastore, 1) := by decide +kernel
theorem dX6_insert_48 : decode cX6_insert 48 = .ok (.iinc 4 (-1), 3) := by decide +kernel
theorem dX6_insert_51 : decode cX6_insert 51 = .ok (.goto (-41), 3) := by decide +kernel
theorem dX6_insert_54 : decode cX6_insert 54 = .ok (.aload_n 0, 1) := by decide +kernel
theorem dX6_insert_55 : decode cX6_insert 55 = .ok (.getfield 10, 3) := by decide +kernel
theorem dX6_insert_58 : decode cX6_insert 58 = .ok (.iload_n 1, 1) := by decide +kernel
theorem dX6_insert_59 : decode cX6_insert 59 = .ok (.iload_n 2, 1) := by decide +kernel
theorem dX6_insert_60 : decode cX6_insert 60 = .ok (.iastore, 1) := by decide +kernel
theorem dX6_insert_61 : decode cX6_insert 61 = .ok (.aload_n 0, 1) := by decide +kernel
theorem dX6_insert_62 : decode cX6_insert 62 = .ok (.getfield 20, 3) := by decide +kernel
theorem dX6_insert_65 : decode cX6_insert 65 = .ok (.iload_n 1, 1) := by decide +kernel
theorem dX6_insert_66 : decode cX6_insert 66 = .ok (.iload_n 3, 1) := by decide +kernel
theorem dX6_insert_67 : decode cX6_insert 67 = .ok (.iastore, 1) := by decide +kernel
theorem dX6_insert_68 : decode cX6_insert 68 = .ok (.aload_n 0, 1) := by decide +kernel
theorem dX6_insert_69 : decode cX6_insert 69 = .ok (.dup, 1) := by decide +kernel
theorem dX6_insert_70 : decode cX6_insert 70 = .ok (.getfield 7, 3) := by decide +kernel
theorem dX6_insert_73 : decode cX6_insert 73 = .ok (.iconst 1, 1) := by decide +kernel
theorem dX6_insert_74 : decode cX6_insert 74 = .ok (.iadd, 1) := by decide +kernel
theorem dX6_insert_75 : decode cX6_insert 75 = .ok (.putfield 7, 3) := by decide +kernel
theorem dX6_insert_78 : decode cX6_insert 78 = .ok (.return_, 1) := by decide +kernel
theorem dX6_grow_0 : decode cX6_grow 0 = .ok (.aload_n 0, 1) := by decide +kernel
theorem dX6_grow_1 : decode cX6_grow 1 = .ok (.getfield 7, 3) := by decide +kernel
theorem dX6_grow_4 : decode cX6_grow 4 = .ok (.aload_n 0, 1) := by decide +kernel
theorem dX6_grow_5 : decode cX6_grow 5 = .ok (.getfield 10, 3) := by decide +kernel
theorem dX6_grow_8 : decode cX6_grow 8 = .ok (.arraylength, 1) := by decide +kernel
theorem dX6_grow_9 : decode cX6_grow 9 = .ok (.if_icmp .ge 4, 3) := by decide +kernel
theorem dX6_grow_12 : decode cX6_grow 12 = .ok (.return_, 1) := by decide +kernel
theorem dX6_grow_13 : decode cX6_grow 13 = .ok (.aload_n 0, 1) := by decide +kernel
theorem dX6_grow_14 : decode cX6_grow 14 = .ok (.aload_n 0, 1) := by decide +kernel
theorem dX6_grow_15 : decode cX6_grow 15 = .ok (.getfield 10, 3) := by decide +kernel
theorem dX6_grow_18 : decode cX6_grow 18 = .ok (.iconst 2, 1) := by decide +kernel
theorem dX6_grow_19 : decode cX6_grow 19 = .ok (.aload_n 0, 1) := by decide +kernel
theorem dX6_grow_20 : decode cX6_grow 20 = .ok (.getfield 7, 3) := by decide +kernel
theorem dX6_grow_23 : decode cX6_grow 23 = .ok (.imul, 1) := by decide +kernel
theorem dX6_grow_24 : decode cX6_grow 24 = .ok (.invokestatic 14, 3) := by decide +kernel
theorem dX6_grow_27 : decode cX6_grow 27 = .ok (.putfield 10, 3) := by decide +kernel
theorem dX6_grow_30 : decode cX6_grow 30 = .ok (.aload_n 0, 1) := by decide +kernel
theorem dX6_grow_31 : decode cX6_grow 31 = .ok (.aload_n 0, 1) := by decide +kernel
theorem dX6_grow_32 : decode cX6_grow 32 = .ok (.getfield 20, 3) := by decide +kernel
theorem dX6_grow_35 : decode cX6_grow 35 = .ok (.iconst 2, 1) := by decide +kernel
theorem dX6_grow_36 : decode cX6_grow 36 = .ok (.aload_n 0, 1) := by decide +kernel
theorem dX6_grow_37 : decode cX6_grow 37 = .ok (.getfield 7, 3) := by decide +kernel
theorem dX6_grow_40 : decode cX6_grow 40 = .ok (.imul, 1) := by decide +kernel
theorem dX6_grow_41 : decode cX6_grow 41 = .ok (.invokestatic 14, 3) := by decide +kernel
theorem dX6_grow_44 : decode cX6_grow 44 = .ok (.putfield 20, 3) := by decide +kernel
theorem dX6_grow_47 : decode cX6_grow 47 = .ok (.return_, 1) := by decide +kernel
theorem dX6_lay_0 : decode cX6_lay 0 = .ok (.aload_n 0, 1) := by decide +kernel
theorem dX6_lay_1 : decode cX6_lay 1 = .ok (.invokevirtual 23, 3) := by decide +kernel
theorem dX6_lay_4 : decode cX6_lay 4 = .ok (.aload_n 0, 1) := by decide +kernel
theorem dX6_lay_5 : decode cX6_lay 5 = .ok (.getfield 10, 3) := by decide +kernel
theorem dX6_lay_8 : decode cX6_lay 8 = .ok (.aload_n 0, 1) := by decide +kernel
theorem dX6_lay_9 : decode cX6_lay 9 = .ok (.getfield 7, 3) := by decide +kernel
theorem dX6_lay_12 : decode cX6_lay 12 = .ok (.iload_n 1, 1) := by decide +kernel
theorem dX6_lay_13 : decode cX6_lay 13 = .ok (.iastore, 1) := by decide +kernel
theorem dX6_lay_14 : decode cX6_lay 14 = .ok (.aload_n 0, 1) := by decide +kernel
theorem dX6_lay_15 : decode cX6_lay 15 = .ok (.getfield 20, 3) := by decide +kernel
theorem dX6_lay_18 : decode cX6_lay 18 = .ok (.aload_n 0, 1) := by decide +kernel
theorem dX6_lay_19 : decode cX6_lay 19 = .ok (.getfield 7, 3) := by decide +kernel
theorem dX6_lay_22 : decode cX6_lay 22 = .ok (.iload_n 2, 1) := by decide +kernel
theorem dX6_lay_23 : decode cX6_lay 23 = .ok (.iastore, 1) := by decide +kernel
theorem dX6_lay_24 : decode cX6_lay 24 = .ok (.aload_n 0, 1) := by decide +kernel
theorem dX6_lay_25 : decode cX6_lay 25 = .ok (.dup, 1) := by decide +kernel
theorem dX6_lay_26 : decode cX6_lay 26 = .ok (.getfield 7, 3) := by decide +kernel
theorem dX6_lay_29 : decode cX6_lay 29 = .ok (.iconst 1, 1) := by decide +kernel
theorem dX6_lay_30 : decode cX6_lay 30 = .ok (.iadd, 1) := by decide +kernel
theorem dX6_lay_31 : decode cX6_lay 31 = .ok (.putfield 7, 3) := by decide +kernel
theorem dX6_lay_34 : decode cX6_lay 34 = .ok (.return_, 1) := by decide +kernel
theorem dX6_single_0 : decode cX6_single 0 = .ok (.aload_n 0, 1) := by decide +kernel
theorem dX6_single_1 : decode cX6_single 1 = .ok (.lconst 0, 1) := by decide +kernel
theorem dX6_single_2 : decode cX6_single 2 = .ok (.putfield 49, 3) := by decide +kernel
theorem dX6_single_5 : decode cX6_single 5 = .ok (.aload_n 0, 1) := by decide +kernel
theorem dX6_single_6 : decode cX6_single 6 = .ok (.lconst 0, 1) := by decide +kernel
theorem dX6_single_7 : decode cX6_single 7 = .ok (.putfield 53, 3) := by decide +kernel
theorem dX6_single_10 : decode cX6_single 10 = .ok (.aload_n 0, 1) := by decide +kernel
theorem dX6_single_11 : decode cX6_single 11 = .ok (.iload_n 1, 1) := by decide +kernel
theorem dX6_single_12 : decode cX6_single 12 = .ok (.invokevirtual 40, 3) := by decide +kernel
theorem dX6_single_15 : decode cX6_single 15 = .ok (.istore_n 2, 1) := by decide +kernel
theorem dX6_single_16 : decode cX6_single 16 = .ok (.iload_n 2, 1) := by decide +kernel
theorem dX6_single_17 : decode cX6_single 17 = .ok (.bipush 91, 2) := by decide +kernel
theorem dX6_single_19 : decode cX6_single 19 = .ok (.if_icmp .ne 9, 3) := by decide +kernel
theorem dX6_single_22 : decode cX6_single 22 = .ok (.aload_n 0, 1) := by decide +kernel
theorem dX6_single_23 : decode cX6_single 23 = .ok (.iload_n 1, 1) := by decide +kernel
theorem dX6_single_24 : decode cX6_single 24 = .ok (.invokevirtual 70, 3) := by decide +kernel
theorem dX6_single_27 : decode cX6_single 27 = .ok (.ireturn, 1) := by decide +kernel
theorem dX6_single_28 : decode cX6_single 28 = .ok (.iload_n 2, 1) := by decide +kernel
theorem dX6_single_29 : decode cX6_single 29 = .ok (.bipush 46, 2) := by decide +kernel
theorem dX6_single_31 : decode cX6_single 31 = .ok (.if_icmp .ne 29, 3) := by decide +kernel
theorem dX6_single_34 : decode cX6_single 34 = .ok (.aload_n 0, 1) := by decide +kernel
theorem dX6_single_35 : decode cX6_single 35 = .ok (.ldc2_w 74, 3) := by decide +kernel
theorem dX6_single_38 : decode cX6_single 38 = .ok (.putfield 49, 3) := by decide +kernel
theorem dX6_single_41 : decode cX6_single 41 = .ok (.aload_n 0, 1) := by decide +kernel
theorem dX6_single_42 : decode cX6_single 42 = .ok (.ldc2_w 68, 3) := by decide +kernel
theorem dX6_single_45 : decode cX6_single 45 = .ok (.putfield 53, 3) := by decide +kernel
theorem dX6_single_48 : decode cX6_single 48 = .ok (.aload_n 0, 1) := by decide +kernel
theorem dX6_single_49 : decode cX6_single 49 = .ok (.dup, 1) := by decide +kernel
theorem dX6_single_50 : decode cX6_single 50 = .ok (.getfield 27, 3) := by decide +kernel
theorem dX6_single_53 : decode cX6_single 53 = .ok (.iconst 1, 1) := by decide +kernel
theorem dX6_single_54 : decode cX6_single 54 = .ok (.iadd, 1) := by decide +kernel
theorem dX6_single_55 : decode cX6_single 55 = .ok (.putfield 27, 3) := by decide +kernel
theorem dX6_single_58 : decode cX6_single 58 = .ok (.iconst 1, 1) := by decide +kernel
theorem dX6_single_59 : decode cX6_single 59 = .ok (.ireturn, 1) := by decide +kernel
theorem dX6_single_60 : decode cX6_single 60 = .ok (.iload_n 2, 1) := by decide +kernel
theorem dX6_single_61 : decode cX6_single 61 = .ok (.bipush 92, 2) := by decide +kernel
theorem dX6_single_63 : decode cX6_single 63 = .ok (.if_icmp .ne 26, 3) := by decide +kernel
theorem dX6_single_66 : decode cX6_single 66 = .ok (.aload_n 0, 1) := by decide +kernel
theorem dX6_single_67 : decode cX6_single 67 = .ok (.dup, 1) := by decide +kernel
theorem dX6_single_68 : decode cX6_single 68 = .ok (.getfield 27, 3) := by decide +kernel
theorem dX6_single_71 : decode cX6_single 71 = .ok (.iconst 1, 1) := by decide +kernel
theorem dX6_single_72 : decode cX6_single 72 = .ok (.iadd, 1) := by decide +kernel
theorem dX6_single_73 : decode cX6_single 73 = .ok (.putfield 27, 3) := by decide +kernel
theorem dX6_single_76 : decode cX6_single 76 = .ok (.aload_n 0, 1) := by decide +kernel
theorem dX6_single_77 : decode cX6_single 77 = .ok (.iload_n 1, 1) := by decide +kernel
theorem dX6_single_78 : decode cX6_single 78 = .ok (.invokevirtual 56, 3) := by decide +kernel
theorem dX6_single_81 : decode cX6_single 81 = .ok (.istore_n 2, 1) := by decide +kernel
theorem dX6_single_82 : decode cX6_single 82 = .ok (.iload_n 2, 1) := by decide +kernel
theorem dX6_single_83 : decode cX6_single 83 = .ok (.iconst (-1), 1) := by decide +kernel
theorem dX6_single_84 : decode cX6_single 84 = .ok (.if_icmp .ne 28, 3) := by decide +kernel
theorem dX6_single_87 : decode cX6_single 87 = .ok (.iconst 0, 1) := by decide +kernel
theorem dX6_single_88 : decode cX6_single 88 = .ok (.ireturn, 1) := by decide +kernel
theorem dX6_single_89 : decode cX6_single 89 = .ok (.iload_n 2, 1) := by decide +kernel
theorem dX6_single_90 : decode cX6_single 90 = .ok (.bipush 32, 2) := by decide +kernel
theorem dX6_single_92 : decode cX6_single 92 = .ok (.if_icmp .lt 18, 3) := by decide +kernel
theorem dX6_single_95 : decode cX6_single 95 = .ok (.iload_n 2, 1) := by decide +kernel
theorem dX6_single_96 : decode cX6_single 96 = .ok (.bipush 126, 2) := by decide +kernel
theorem dX6_single_98 : decode cX6_single 98 = .ok (.if_icmp .gt 12, 3) := by decide +kernel
theorem dX6_single_101 : decode cX6_single 101 = .ok (.iload_n 2, 1) := by decide +kernel
theorem dX6_single_102 : decode cX6_single 102 = .ok (.ldc 76, 2) := by decide +kernel
theorem dX6_single_104 : decode cX6_single 104 = .ok (.invokestatic 45, 3) := by decide +kernel
theorem dX6_single_107 : decode cX6_single 107 = .ok (.ifCond .eq 5, 3) := by decide +kernel
theorem dX6_single_110 : decode cX6_single 110 = .ok (.iconst 0, 1) := by decide +kernel
theorem dX6_single_111 : decode cX6_single 111 = .ok (.ireturn, 1) := by decide +kernel
theorem dX6_single_112 : decode cX6_single 112 = .ok (.aload_n 0, 1) := by decide +kernel
theorem dX6_single_113 : decode cX6_single 113 = .ok (.iload_n 2, 1) := by decide +kernel
theorem dX6_single_114 : decode cX6_single 114 = .ok (.invokevirtual 64, 3) := by decide +kernel
theorem dX6_single_117 : decode cX6_single 117 = .ok (.aload_n 0, 1) := by decide +kernel
theorem dX6_single_118 : decode cX6_single 118 = .ok (.dup, 1) := by decide +kernel
theorem dX6_single_119 : decode cX6_single 119 = .ok (.getfield 27, 3) := by decide +kernel
theorem dX6_single_122 : decode cX6_single 122 = .ok (.iconst 1, 1) := by decide +kernel
theorem dX6_single_123 : decode cX6_single 123 = .ok (.iadd, 1) := by decide +kernel
theorem dX6_single_124 : decode cX6_single 124 = .ok (.putfield 27, 3) := by decide +kernel
theorem dX6_single_127 : decode cX6_single 127 = .ok (.iconst 1, 1) := by decide +kernel
theorem dX6_single_128 : decode cX6_single 128 = .ok (.ireturn, 1) := by decide +kernel
theorem dX6_byteAt_0 : decode cX6_byteAt 0 = .ok (.aload_n 0, 1) := by decide +kernel
theorem dX6_byteAt_1 : decode cX6_byteAt 1 = .ok (.getfield 27, 3) := by decide +kernel
theorem dX6_byteAt_4 : decode cX6_byteAt 4 = .ok (.iload_n 1, 1) := by decide +kernel
theorem dX6_byteAt_5 : decode cX6_byteAt 5 = .ok (.if_icmp .ge 15, 3) := by decide +kernel
theorem dX6_byteAt_8 : decode cX6_byteAt 8 = .ok (.aload_n 0, 1) := by decide +kernel
theorem dX6_byteAt_9 : decode cX6_byteAt 9 = .ok (.getfield 30, 3) := by decide +kernel
theorem dX6_byteAt_12 : decode cX6_byteAt 12 = .ok (.aload_n 0, 1) := by decide +kernel
theorem dX6_byteAt_13 : decode cX6_byteAt 13 = .ok (.getfield 27, 3) := by decide +kernel
theorem dX6_byteAt_16 : decode cX6_byteAt 16 = .ok (.baload, 1) := by decide +kernel
theorem dX6_byteAt_17 : decode cX6_byteAt 17 = .ok (.goto 4, 3) := by decide +kernel
theorem dX6_byteAt_20 : decode cX6_byteAt 20 = .ok (.iconst (-1), 1) := by decide +kernel
theorem dX6_byteAt_21 : decode cX6_byteAt 21 = .ok (.ireturn, 1) := by decide +kernel
theorem dX6_bracket_0 : decode cX6_bracket 0 = .ok (.aload_n 0, 1) := by decide +kernel
theorem dX6_bracket_1 : decode cX6_bracket 1 = .ok (.dup, 1) := by decide +kernel
theorem dX6_bracket_2 : decode cX6_bracket 2 = .ok (.getfield 27, 3) := by decide +kernel
theorem dX6_bracket_5 : decode cX6_bracket 5 = .ok (.iconst 1, 1) := by decide +kernel
theorem dX6_bracket_6 : decode cX6_bracket 6 = .ok (.iadd, 1) := by decide +kernel
theorem dX6_bracket_7 : decode cX6_bracket 7 = .ok (.putfield 27, 3) := by decide +kernel
theorem dX6_bracket_10 : decode cX6_bracket 10 = .ok (.aload_n 0, 1) := by decide +kernel
theorem dX6_bracket_11 : decode cX6_bracket 11 = .ok (.iload_n 1, 1) := by decide +kernel
theorem dX6_bracket_12 : decode cX6_bracket 12 = .ok (.invokevirtual 40, 3) := by decide +kernel
theorem dX6_bracket_15 : decode cX6_bracket 15 = .ok (.bipush 94, 2) := by decide +kernel
theorem dX6_bracket_17 : decode cX6_bracket 17 = .ok (.if_icmp .ne 7, 3) := by decide +kernel
theorem dX6_bracket_20 : decode cX6_bracket 20 = .ok (.iconst 1, 1) := by decide +kernel
theorem dX6_bracket_21 : decode cX6_bracket 21 = .ok (.goto 4, 3) := by decide +kernel
theorem dX6_bracket_24 : decode cX6_bracket 24 = .ok (.iconst 0, 1) := by decide +kernel
theorem dX6_bracket_25 : decode cX6_bracket 25 = .ok (.istore_n 2, 1) := by decide +kernel
theorem dX6_bracket_26 : decode cX6_bracket 26 = .ok (.iload_n 2, 1) := by decide +kernel
theorem dX6_bracket_27 : decode cX6_bracket 27 = .ok (.ifCond .eq 13, 3) := by decide +kernel
theorem dX6_bracket_30 : decode cX6_bracket 30 = .ok (.aload_n 0, 1) := by decide +kernel
theorem dX6_bracket_31 : decode cX6_bracket 31 = .ok (.dup, 1) := by decide +kernel
theorem dX6_bracket_32 : decode cX6_bracket 32 = .ok (.getfield 27, 3) := by decide +kernel
theorem dX6_bracket_35 : decode cX6_bracket 35 = .ok (.iconst 1, 1) := by decide +kernel
theorem dX6_bracket_36 : decode cX6_bracket 36 = .ok (.iadd, 1) := by decide +kernel
theorem dX6_bracket_37 : decode cX6_bracket 37 = .ok (.putfield 27, 3) := by decide +kernel
theorem dX6_bracket_40 : decode cX6_bracket 40 = .ok (.aload_n 0, 1) := by decide +kernel
theorem dX6_bracket_41 : decode cX6_bracket 41 = .ok (.iload_n 1, 1) := by decide +kernel
theorem dX6_bracket_42 : decode cX6_bracket 42 = .ok (.invokevirtual 61, 3) := by decide +kernel
theorem dX6_bracket_45 : decode cX6_bracket 45 = .ok (.istore_n 3, 1) := by decide +kernel
theorem dX6_bracket_46 : decode cX6_bracket 46 = .ok (.iload_n 3, 1) := by decide +kernel
theorem dX6_bracket_47 : decode cX6_bracket 47 = .ok (.iconst (-1), 1) := by decide +kernel
theorem dX6_bracket_48 : decode cX6_bracket 48 = .ok (.if_icmp .ne 5, 3) := by decide +kernel
theorem dX6_bracket_51 : decode cX6_bracket 51 = .ok (.iconst 0, 1) := by decide +kernel
theorem dX6_bracket_52 : decode cX6_bracket 52 = .ok (.ireturn, 1) := by decide +kernel
theorem dX6_bracket_53 : decode cX6_bracket 53 = .ok (.iload_n 3, 1) := by decide +kernel
theorem dX6_bracket_54 : decode cX6_bracket 54 = .ok (.istore 4, 2) := by decide +kernel
theorem dX6_bracket_56 : decode cX6_bracket 56 = .ok (.aload_n 0, 1) := by decide +kernel
theorem dX6_bracket_57 : decode cX6_bracket 57 = .ok (.iload_n 1, 1) := by decide +kernel
theorem dX6_bracket_58 : decode cX6_bracket 58 = .ok (.invokevirtual 40, 3) := by decide +kernel
theorem dX6_bracket_61 : decode cX6_bracket 61 = .ok (.bipush 45, 2) := by decide +kernel
theorem dX6_bracket_63 : decode cX6_bracket 63 = .ok (.if_icmp .ne 48, 3) := by decide +kernel
theorem dX6_bracket_66 : decode cX6_bracket 66 = .ok (.aload_n 0, 1) := by decide +kernel
theorem dX6_bracket_67 : decode cX6_bracket 67 = .ok (.dup, 1) := by decide +kernel
theorem dX6_bracket_68 : decode cX6_bracket 68 = .ok (.getfield 27, 3) := by decide +kernel
theorem dX6_bracket_71 : decode cX6_bracket 71 = .ok (.iconst 1, 1) := by decide +kernel
theorem dX6_bracket_72 : decode cX6_bracket 72 = .ok (.iadd, 1) := by decide +kernel
theorem dX6_bracket_73 : decode cX6_bracket 73 = .ok (.putfield 27, 3) := by decide +kernel
theorem dX6_bracket_76 : decode cX6_bracket 76 = .ok (.aload_n 0, 1) := by decide +kernel
theorem dX6_bracket_77 : decode cX6_bracket 77 = .ok (.getfield 27, 3) := by decide +kernel
theorem dX6_bracket_80 : decode cX6_bracket 80 = .ok (.istore 5, 2) := by decide +kernel
theorem dX6_bracket_82 : decode cX6_bracket 82 = .ok (.aload_n 0, 1) := by decide +kernel
theorem dX6_bracket_83 : decode cX6_bracket 83 = .ok (.iload_n 1, 1) := by decide +kernel
theorem dX6_bracket_84 : decode cX6_bracket 84 = .ok (.invokevirtual 61, 3) := by decide +kernel
theorem dX6_bracket_87 : decode cX6_bracket 87 = .ok (.istore 4, 2) := by decide +kernel
theorem dX6_bracket_89 : decode cX6_bracket 89 = .ok (.iload 4, 2) := by decide +kernel
theorem dX6_bracket_91 : decode cX6_bracket 91 = .ok (.iconst (-1), 1) := by decide +kernel
theorem dX6_bracket_92 : decode cX6_bracket 92 = .ok (.if_icmp .ne 5, 3) := by decide +kernel
theorem dX6_bracket_95 : decode cX6_bracket 95 = .ok (.iconst 0, 1) := by decide +kernel
theorem dX6_bracket_96 : decode cX6_bracket 96 = .ok (.ireturn, 1) := by decide +kernel
theorem dX6_bracket_97 : decode cX6_bracket 97 = .ok (.iload 4, 2) := by decide +kernel
theorem dX6_bracket_99 : decode cX6_bracket 99 = .ok (.iload_n 3, 1) := by decide +kernel
theorem dX6_bracket_100 : decode cX6_bracket 100 = .ok (.if_icmp .ge 11, 3) := by decide +kernel
theorem dX6_bracket_103 : decode cX6_bracket 103 = .ok (.aload_n 0, 1) := by decide +kernel
theorem dX6_bracket_104 : decode cX6_bracket 104 = .ok (.iload 5, 2) := by decide +kernel
theorem dX6_bracket_106 : decode cX6_bracket 106 = .ok (.putfield 27, 3) := by decide +kernel
theorem dX6_bracket_109 : decode cX6_bracket 109 = .ok (.iconst 0, 1) := by decide +kernel
theorem dX6_bracket_110 : decode cX6_bracket 110 = .ok (.ireturn, 1) := by decide +kernel
theorem dX6_bracket_111 : decode cX6_bracket 111 = .ok (.iload_n 3, 1) := by decide +kernel
theorem dX6_bracket_112 : decode cX6_bracket 112 = .ok (.istore 5, 2) := by decide +kernel
theorem dX6_bracket_114 : decode cX6_bracket 114 = .ok (.iload 5, 2) := by decide +kernel
theorem dX6_bracket_116 : decode cX6_bracket 116 = .ok (.iload 4, 2) := by decide +kernel
theorem dX6_bracket_118 : decode cX6_bracket 118 = .ok (.if_icmp .gt 15, 3) := by decide +kernel
theorem dX6_bracket_121 : decode cX6_bracket 121 = .ok (.aload_n 0, 1) := by decide +kernel
theorem dX6_bracket_122 : decode cX6_bracket 122 = .ok (.iload 5, 2) := by decide +kernel
theorem dX6_bracket_124 : decode cX6_bracket 124 = .ok (.invokevirtual 64, 3) := by decide +kernel
theorem dX6_bracket_127 : decode cX6_bracket 127 = .ok (.iinc 5 1, 3) := by decide +kernel
theorem dX6_bracket_130 : decode cX6_bracket 130 = .ok (.goto (-16), 3) := by decide +kernel
theorem dX6_bracket_133 : decode cX6_bracket 133 = .ok (.aload_n 0, 1) := by decide +kernel
theorem dX6_bracket_134 : decode cX6_bracket 134 = .ok (.iload_n 1, 1) := by decide +kernel
theorem dX6_bracket_135 : decode cX6_bracket 135 = .ok (.invokevirtual 40, 3) := by decide +kernel
theorem dX6_bracket_138 : decode cX6_bracket 138 = .ok (.bipush 93, 2) := by decide +kernel
theorem dX6_bracket_140 : decode cX6_bracket 140 = .ok (.if_icmp .eq 11, 3) := by decide +kernel
theorem dX6_bracket_143 : decode cX6_bracket 143 = .ok (.aload_n 0, 1) := by decide +kernel
theorem dX6_bracket_144 : decode cX6_bracket 144 = .ok (.getfield 27, 3) := by decide +kernel
theorem dX6_bracket_147 : decode cX6_bracket 147 = .ok (.iload_n 1, 1) := by decide +kernel
theorem dX6_bracket_148 : decode cX6_bracket 148 = .ok (.if_icmp .lt (-108), 3) := by decide +kernel
theorem dX6_bracket_151 : decode cX6_bracket 151 = .ok (.aload_n 0, 1) := by decide +kernel
theorem dX6_bracket_152 : decode cX6_bracket 152 = .ok (.iload_n 1, 1) := by decide +kernel
theorem dX6_bracket_153 : decode cX6_bracket 153 = .ok (.invokevirtual 40, 3) := by decide +kernel
theorem dX6_bracket_156 : decode cX6_bracket 156 = .ok (.bipush 93, 2) := by decide +kernel
theorem dX6_bracket_158 : decode cX6_bracket 158 = .ok (.if_icmp .eq 5, 3) := by decide +kernel
theorem dX6_bracket_161 : decode cX6_bracket 161 = .ok (.iconst 0, 1) := by decide +kernel
theorem dX6_bracket_162 : decode cX6_bracket 162 = .ok (.ireturn, 1) := by decide +kernel
theorem dX6_bracket_163 : decode cX6_bracket 163 = .ok (.aload_n 0, 1) := by decide +kernel
theorem dX6_bracket_164 : decode cX6_bracket 164 = .ok (.dup, 1) := by decide +kernel
theorem dX6_bracket_165 : decode cX6_bracket 165 = .ok (.getfield 27, 3) := by decide +kernel
theorem dX6_bracket_168 : decode cX6_bracket 168 = .ok (.iconst 1, 1) := by decide +kernel
theorem dX6_bracket_169 : decode cX6_bracket 169 = .ok (.iadd, 1) := by decide +kernel
theorem dX6_bracket_170 : decode cX6_bracket 170 = .ok (.putfield 27, 3) := by decide +kernel
theorem dX6_bracket_173 : decode cX6_bracket 173 = .ok (.iload_n 2, 1) := by decide +kernel
theorem dX6_bracket_174 : decode cX6_bracket 174 = .ok (.ifCond .eq 27, 3) := by decide +kernel
theorem dX6_bracket_177 : decode cX6_bracket 177 = .ok (.aload_n 0, 1) := by decide +kernel
theorem dX6_bracket_178 : decode cX6_bracket 178 = .ok (.aload_n 0, 1) := by decide +kernel
theorem dX6_bracket_179 : decode cX6_bracket 179 = .ok (.getfield 49, 3) := by decide +kernel
theorem dX6_bracket_182 : decode cX6_bracket 182 = .ok (.ldc2_w 68, 3) := by decide +kernel
theorem dX6_bracket_185 : decode cX6_bracket 185 = .ok (.lxor, 1) := by decide +kernel
theorem dX6_bracket_186 : decode cX6_bracket 186 = .ok (.putfield 49, 3) := by decide +kernel
theorem dX6_bracket_189 : decode cX6_bracket 189 = .ok (.aload_n 0, 1) := by decide +kernel
theorem dX6_bracket_190 : decode cX6_bracket 190 = .ok (.aload_n 0, 1) := by decide +kernel
theorem dX6_bracket_191 : decode cX6_bracket 191 = .ok (.getfield 53, 3) := by decide +kernel
theorem dX6_bracket_194 : decode cX6_bracket 194 = .ok (.ldc2_w 68, 3) := by decide +kernel
theorem dX6_bracket_197 : decode cX6_bracket 197 = .ok (.lxor, 1) := by decide +kernel
theorem dX6_bracket_198 : decode cX6_bracket 198 = .ok (.putfield 53, 3) := by decide +kernel
theorem dX6_bracket_201 : decode cX6_bracket 201 = .ok (.iconst 1, 1) := by decide +kernel
theorem dX6_bracket_202 : decode cX6_bracket 202 = .ok (.ireturn, 1) := by decide +kernel
theorem dX6_member_0 : decode cX6_member 0 = .ok (.aload_n 0, 1) := by decide +kernel
theorem dX6_member_1 : decode cX6_member 1 = .ok (.iload_n 1, 1) := by decide +kernel
theorem dX6_member_2 : decode cX6_member 2 = .ok (.invokevirtual 40, 3) := by decide +kernel
theorem dX6_member_5 : decode cX6_member 5 = .ok (.istore_n 2, 1) := by decide +kernel
theorem dX6_member_6 : decode cX6_member 6 = .ok (.iload_n 2, 1) := by decide +kernel
theorem dX6_member_7 : decode cX6_member 7 = .ok (.bipush 92, 2) := by decide +kernel
theorem dX6_member_9 : decode cX6_member 9 = .ok (.if_icmp .ne 38, 3) := by decide +kernel
theorem dX6_member_12 : decode cX6_member 12 = .ok (.aload_n 0, 1) := by decide +kernel
theorem dX6_member_13 : decode cX6_member 13 = .ok (.dup, 1) := by decide +kernel
theorem dX6_member_14 : decode cX6_member 14 = .ok (.getfield 27, 3) := by decide +kernel
theorem dX6_member_17 : decode cX6_member 17 = .ok (.iconst 1, 1) := by decide +kernel
theorem dX6_member_18 : decode cX6_member 18 = .ok (.iadd, 1) := by decide +kernel
theorem dX6_member_19 : decode cX6_member 19 = .ok (.putfield 27, 3) := by decide +kernel
theorem dX6_member_22 : decode cX6_member 22 = .ok (.aload_n 0, 1) := by decide +kernel
theorem dX6_member_23 : decode cX6_member 23 = .ok (.iload_n 1, 1) := by decide +kernel
theorem dX6_member_24 : decode cX6_member 24 = .ok (.invokevirtual 56, 3) := by decide +kernel
theorem dX6_member_27 : decode cX6_member 27 = .ok (.istore_n 2, 1) := by decide +kernel
theorem dX6_member_28 : decode cX6_member 28 = .ok (.iload_n 2, 1) := by decide +kernel
theorem dX6_member_29 : decode cX6_member 29 = .ok (.iconst (-1), 1) := by decide +kernel
theorem dX6_member_30 : decode cX6_member 30 = .ok (.if_icmp .ne 5, 3) := by decide +kernel
theorem dX6_member_33 : decode cX6_member 33 = .ok (.iconst (-1), 1) := by decide +kernel
theorem dX6_member_34 : decode cX6_member 34 = .ok (.ireturn, 1) := by decide +kernel
theorem dX6_member_35 : decode cX6_member 35 = .ok (.aload_n 0, 1) := by decide +kernel
theorem dX6_member_36 : decode cX6_member 36 = .ok (.dup, 1) := by decide +kernel
theorem dX6_member_37 : decode cX6_member 37 = .ok (.getfield 27, 3) := by decide +kernel
theorem dX6_member_40 : decode cX6_member 40 = .ok (.iconst 1, 1) := by decide +kernel
theorem dX6_member_41 : decode cX6_member 41 = .ok (.iadd, 1) := by decide +kernel
theorem dX6_member_42 : decode cX6_member 42 = .ok (.putfield 27, 3) := by decide +kernel
theorem dX6_member_45 : decode cX6_member 45 = .ok (.iload_n 2, 1) := by decide +kernel
theorem dX6_member_46 : decode cX6_member 46 = .ok (.ireturn, 1) := by decide +kernel
theorem dX6_member_47 : decode cX6_member 47 = .ok (.iload_n 2, 1) := by decide +kernel
theorem dX6_member_48 : decode cX6_member 48 = .ok (.bipush 32, 2) := by decide +kernel
theorem dX6_member_50 : decode cX6_member 50 = .ok (.if_icmp .lt 18, 3) := by decide +kernel
theorem dX6_member_53 : decode cX6_member 53 = .ok (.iload_n 2, 1) := by decide +kernel
theorem dX6_member_54 : decode cX6_member 54 = .ok (.bipush 126, 2) := by decide +kernel
theorem dX6_member_56 : decode cX6_member 56 = .ok (.if_icmp .gt 12, 3) := by decide +kernel
theorem dX6_member_59 : decode cX6_member 59 = .ok (.iload_n 2, 1) := by decide +kernel
theorem dX6_member_60 : decode cX6_member 60 = .ok (.ldc 59, 2) := by decide +kernel
theorem dX6_member_62 : decode cX6_member 62 = .ok (.invokestatic 45, 3) := by decide +kernel
theorem dX6_member_65 : decode cX6_member 65 = .ok (.ifCond .eq 5, 3) := by decide +kernel
theorem dX6_member_68 : decode cX6_member 68 = .ok (.iconst (-1), 1) := by decide +kernel
theorem dX6_member_69 : decode cX6_member 69 = .ok (.ireturn, 1) := by decide +kernel
theorem dX6_member_70 : decode cX6_member 70 = .ok (.aload_n 0, 1) := by decide +kernel
theorem dX6_member_71 : decode cX6_member 71 = .ok (.dup, 1) := by decide +kernel
theorem dX6_member_72 : decode cX6_member 72 = .ok (.getfield 27, 3) := by decide +kernel
theorem dX6_member_75 : decode cX6_member 75 = .ok (.iconst 1, 1) := by decide +kernel
theorem dX6_member_76 : decode cX6_member 76 = .ok (.iadd, 1) := by decide +kernel
theorem dX6_member_77 : decode cX6_member 77 = .ok (.putfield 27, 3) := by decide +kernel
theorem dX6_member_80 : decode cX6_member 80 = .ok (.iload_n 2, 1) := by decide +kernel
theorem dX6_member_81 : decode cX6_member 81 = .ok (.ireturn, 1) := by decide +kernel
theorem dX6_escaped_0 : decode cX6_escaped 0 = .ok (.aload_n 0, 1) := by decide +kernel
theorem dX6_escaped_1 : decode cX6_escaped 1 = .ok (.iload_n 1, 1) := by decide +kernel
theorem dX6_escaped_2 : decode cX6_escaped 2 = .ok (.invokevirtual 40, 3) := by decide +kernel
theorem dX6_escaped_5 : decode cX6_escaped 5 = .ok (.istore_n 2, 1) := by decide +kernel
theorem dX6_escaped_6 : decode cX6_escaped 6 = .ok (.iload_n 2, 1) := by decide +kernel
theorem dX6_escaped_7 : decode cX6_escaped 7 = .ok (.bipush 110, 2) := by decide +kernel
theorem dX6_escaped_9 : decode cX6_escaped 9 = .ok (.if_icmp .ne 6, 3) := by decide +kernel
theorem dX6_escaped_12 : decode cX6_escaped 12 = .ok (.bipush 10, 2) := by decide +kernel
theorem dX6_escaped_14 : decode cX6_escaped 14 = .ok (.ireturn, 1) := by decide +kernel
theorem dX6_escaped_15 : decode cX6_escaped 15 = .ok (.iload_n 2, 1) := by decide +kernel
theorem dX6_escaped_16 : decode cX6_escaped 16 = .ok (.bipush 116, 2) := by decide +kernel
theorem dX6_escaped_18 : decode cX6_escaped 18 = .ok (.if_icmp .ne 6, 3) := by decide +kernel
theorem dX6_escaped_21 : decode cX6_escaped 21 = .ok (.bipush 9, 2) := by decide +kernel
theorem dX6_escaped_23 : decode cX6_escaped 23 = .ok (.ireturn, 1) := by decide +kernel
theorem dX6_escaped_24 : decode cX6_escaped 24 = .ok (.iload_n 2, 1) := by decide +kernel
theorem dX6_escaped_25 : decode cX6_escaped 25 = .ok (.bipush 114, 2) := by decide +kernel
theorem dX6_escaped_27 : decode cX6_escaped 27 = .ok (.if_icmp .ne 6, 3) := by decide +kernel
theorem dX6_escaped_30 : decode cX6_escaped 30 = .ok (.bipush 13, 2) := by decide +kernel
theorem dX6_escaped_32 : decode cX6_escaped 32 = .ok (.ireturn, 1) := by decide +kernel
theorem dX6_escaped_33 : decode cX6_escaped 33 = .ok (.iload_n 2, 1) := by decide +kernel
theorem dX6_escaped_34 : decode cX6_escaped 34 = .ok (.ldc 43, 2) := by decide +kernel
theorem dX6_escaped_36 : decode cX6_escaped 36 = .ok (.invokestatic 45, 3) := by decide +kernel
theorem dX6_escaped_39 : decode cX6_escaped 39 = .ok (.ifCond .eq 7, 3) := by decide +kernel
theorem dX6_escaped_42 : decode cX6_escaped 42 = .ok (.iload_n 2, 1) := by decide +kernel
theorem dX6_escaped_43 : decode cX6_escaped 43 = .ok (.goto 4, 3) := by decide +kernel
theorem dX6_escaped_46 : decode cX6_escaped 46 = .ok (.iconst (-1), 1) := by decide +kernel
theorem dX6_escaped_47 : decode cX6_escaped 47 = .ok (.ireturn, 1) := by decide +kernel
theorem dX6_isIn_0 : decode cX6_isIn 0 = .ok (.iload_n 0, 1) := by decide +kernel
theorem dX6_isIn_1 : decode cX6_isIn 1 = .ok (.ifCond .lt 15, 3) := by decide +kernel
theorem dX6_isIn_4 : decode cX6_isIn 4 = .ok (.aload_n 1, 1) := by decide +kernel
theorem dX6_isIn_5 : decode cX6_isIn 5 = .ok (.iload_n 0, 1) := by decide +kernel
theorem dX6_isIn_6 : decode cX6_isIn 6 = .ok (.invokevirtual 34, 3) := by decide +kernel
theorem dX6_isIn_9 : decode cX6_isIn 9 = .ok (.ifCond .lt 7, 3) := by decide +kernel
theorem dX6_isIn_12 : decode cX6_isIn 12 = .ok (.iconst 1, 1) := by decide +kernel
theorem dX6_isIn_13 : decode cX6_isIn 13 = .ok (.goto 4, 3) := by decide +kernel
theorem dX6_isIn_16 : decode cX6_isIn 16 = .ok (.iconst 0, 1) := by decide +kernel
theorem dX6_isIn_17 : decode cX6_isIn 17 = .ok (.ireturn, 1) := by decide +kernel
theorem dX6_put_0 : decode cX6_put 0 = .ok (.iload_n 1, 1) := by decide +kernel
theorem dX6_put_1 : decode cX6_put 1 = .ok (.bipush 64, 2) := by decide +kernel
theorem dX6_put_3 : decode cX6_put 3 = .ok (.if_icmp .ge 18, 3) := by decide +kernel
theorem dX6_put_6 : decode cX6_put 6 = .ok (.aload_n 0, 1) := by decide +kernel
theorem dX6_put_7 : decode cX6_put 7 = .ok (.dup, 1) := by decide +kernel
theorem dX6_put_8 : decode cX6_put 8 = .ok (.getfield 49, 3) := by decide +kernel
theorem dX6_put_11 : decode cX6_put 11 = .ok (.lconst 1, 1) := by decide +kernel
theorem dX6_put_12 : decode cX6_put 12 = .ok (.iload_n 1, 1) := by decide +kernel
theorem dX6_put_13 : decode cX6_put 13 = .ok (.lshl, 1) := by decide +kernel
theorem dX6_put_14 : decode cX6_put 14 = .ok (.lor, 1) := by decide +kernel
theorem dX6_put_15 : decode cX6_put 15 = .ok (.putfield 49, 3) := by decide +kernel
theorem dX6_put_18 : decode cX6_put 18 = .ok (.goto 18, 3) := by decide +kernel
theorem dX6_put_21 : decode cX6_put 21 = .ok (.aload_n 0, 1) := by decide +kernel
theorem dX6_put_22 : decode cX6_put 22 = .ok (.dup, 1) := by decide +kernel
theorem dX6_put_23 : decode cX6_put 23 = .ok (.getfield 53, 3) := by decide +kernel
theorem dX6_put_26 : decode cX6_put 26 = .ok (.lconst 1, 1) := by decide +kernel
theorem dX6_put_27 : decode cX6_put 27 = .ok (.iload_n 1, 1) := by decide +kernel
theorem dX6_put_28 : decode cX6_put 28 = .ok (.bipush 64, 2) := by decide +kernel
theorem dX6_put_30 : decode cX6_put 30 = .ok (.isub, 1) := by decide +kernel
theorem dX6_put_31 : decode cX6_put 31 = .ok (.lshl, 1) := by decide +kernel
theorem dX6_put_32 : decode cX6_put 32 = .ok (.lor, 1) := by decide +kernel
theorem dX6_put_33 : decode cX6_put 33 = .ok (.putfield 53, 3) := by decide +kernel
theorem dX6_put_36 : decode cX6_put 36 = .ok (.return_, 1) := by decide +kernel
theorem dX6_build_0 : decode cX6_build 0 = .ok (.iconst 0, 1) := by decide +kernel
theorem dX6_build_1 : decode cX6_build 1 = .ok (.istore_n 1, 1) := by decide +kernel
theorem dX6_build_2 : decode cX6_build 2 = .ok (.iload_n 1, 1) := by decide +kernel
theorem dX6_build_3 : decode cX6_build 3 = .ok (.aload_n 0, 1) := by decide +kernel
theorem dX6_build_4 : decode cX6_build 4 = .ok (.getfield 7, 3) := by decide +kernel
theorem dX6_build_7 : decode cX6_build 7 = .ok (.if_icmp .ge 30, 3) := by decide +kernel
theorem dX6_build_10 : decode cX6_build 10 = .ok (.aload_n 0, 1) := by decide +kernel
theorem dX6_build_11 : decode cX6_build 11 = .ok (.getfield 10, 3) := by decide +kernel
theorem dX6_build_14 : decode cX6_build 14 = .ok (.iload_n 1, 1) := by decide +kernel
theorem dX6_build_15 : decode cX6_build 15 = .ok (.iaload, 1) := by decide +kernel
theorem dX6_build_16 : decode cX6_build 16 = .ok (.ifCond .ne 15, 3) := by decide +kernel
theorem dX6_build_19 : decode cX6_build 19 = .ok (.aload_n 0, 1) := by decide +kernel
theorem dX6_build_20 : decode cX6_build 20 = .ok (.getfield 162, 3) := by decide +kernel
theorem dX6_build_23 : decode cX6_build 23 = .ok (.aload_n 0, 1) := by decide +kernel
theorem dX6_build_24 : decode cX6_build 24 = .ok (.getfield 20, 3) := by decide +kernel
theorem dX6_build_27 : decode cX6_build 27 = .ok (.iload_n 1, 1) := by decide +kernel
theorem dX6_build_28 : decode cX6_build 28 = .ok (.iaload, 1) := by decide +kernel
theorem dX6_build_29 : decode cX6_build 29 = .ok (.iload_n 1, 1) := by decide +kernel
theorem dX6_build_30 : decode cX6_build 30 = .ok (.iastore, 1) := by decide +kernel
theorem dX6_build_31 : decode cX6_build 31 = .ok (.iinc 1 1, 3) := by decide +kernel
theorem dX6_build_34 : decode cX6_build 34 = .ok (.goto (-32), 3) := by decide +kernel
theorem dX6_build_37 : decode cX6_build 37 = .ok (.iconst 0, 1) := by decide +kernel
theorem dX6_build_38 : decode cX6_build 38 = .ok (.istore_n 1, 1) := by decide +kernel
theorem dX6_build_39 : decode cX6_build 39 = .ok (.iload_n 1, 1) := by decide +kernel
theorem dX6_build_40 : decode cX6_build 40 = .ok (.aload_n 0, 1) := by decide +kernel
theorem dX6_build_41 : decode cX6_build 41 = .ok (.getfield 150, 3) := by decide +kernel
theorem dX6_build_44 : decode cX6_build 44 = .ok (.arraylength, 1) := by decide +kernel
theorem dX6_build_45 : decode cX6_build 45 = .ok (.if_icmp .ge 16, 3) := by decide +kernel
theorem dX6_build_48 : decode cX6_build 48 = .ok (.aload_n 0, 1) := by decide +kernel
theorem dX6_build_49 : decode cX6_build 49 = .ok (.getfield 150, 3) := by decide +kernel
theorem dX6_build_52 : decode cX6_build 52 = .ok (.iload_n 1, 1) := by decide +kernel
theorem dX6_build_53 : decode cX6_build 53 = .ok (.iconst (-1), 1) := by decide +kernel
theorem dX6_build_54 : decode cX6_build 54 = .ok (.iastore, 1) := by decide +kernel
theorem dX6_build_55 : decode cX6_build 55 = .ok (.iinc 1 1, 3) := by decide +kernel
theorem dX6_build_58 : decode cX6_build 58 = .ok (.goto (-19), 3) := by decide +kernel
theorem dX6_build_61 : decode cX6_build 61 = .ok (.aload_n 0, 1) := by decide +kernel
theorem dX6_build_62 : decode cX6_build 62 = .ok (.iconst 1, 1) := by decide +kernel
theorem dX6_build_63 : decode cX6_build 63 = .ok (.putfield 159, 3) := by decide +kernel
theorem dX6_build_66 : decode cX6_build 66 = .ok (.iconst 0, 1) := by decide +kernel
theorem dX6_build_67 : decode cX6_build 67 = .ok (.istore_n 1, 1) := by decide +kernel
theorem dX6_build_68 : decode cX6_build 68 = .ok (.iload_n 1, 1) := by decide +kernel
theorem dX6_build_69 : decode cX6_build 69 = .ok (.aload_n 0, 1) := by decide +kernel
theorem dX6_build_70 : decode cX6_build 70 = .ok (.getfield 159, 3) := by decide +kernel
theorem dX6_build_73 : decode cX6_build 73 = .ok (.if_icmp .ge 268, 3) := by decide +kernel
theorem dX6_build_76 : decode cX6_build 76 = .ok (.aload_n 0, 1) := by decide +kernel
theorem dX6_build_77 : decode cX6_build 77 = .ok (.invokevirtual 165, 3) := by decide +kernel
theorem dX6_build_80 : decode cX6_build 80 = .ok (.iload_n 1, 1) := by decide +kernel
theorem dX6_build_81 : decode cX6_build 81 = .ok (.ifCond .ne 11, 3) := by decide +kernel
theorem dX6_build_84 : decode cX6_build 84 = .ok (.aload_n 0, 1) := by decide +kernel
theorem dX6_build_85 : decode cX6_build 85 = .ok (.iconst 0, 1) := by decide +kernel
theorem dX6_build_86 : decode cX6_build 86 = .ok (.invokevirtual 133, 3) := by decide +kernel
theorem dX6_build_89 : decode cX6_build 89 = .ok (.goto 57, 3) := by decide +kernel
theorem dX6_build_92 : decode cX6_build 92 = .ok (.iconst 0, 1) := by decide +kernel
theorem dX6_build_93 : decode cX6_build 93 = .ok (.istore_n 2, 1) := by decide +kernel
theorem dX6_build_94 : decode cX6_build 94 = .ok (.iload_n 2, 1) := by decide +kernel
theorem dX6_build_95 : decode cX6_build 95 = .ok (.aload_n 0, 1) := by decide +kernel
theorem dX6_build_96 : decode cX6_build 96 = .ok (.getfield 102, 3) := by decide +kernel
theorem dX6_build_99 : decode cX6_build 99 = .ok (.if_icmp .ge 47, 3) := by decide +kernel
theorem dX6_build_102 : decode cX6_build 102 = .ok (.aload_n 0, 1) := by decide +kernel
theorem dX6_build_103 : decode cX6_build 103 = .ok (.getfield 136, 3) := by decide +kernel
theorem dX6_build_106 : decode cX6_build 106 = .ok (.bipush 7, 2) := by decide +kernel
theorem dX6_build_108 : decode cX6_build 108 = .ok (.iload_n 1, 1) := by decide +kernel
theorem dX6_build_109 : decode cX6_build 109 = .ok (.imul, 1) := by decide +kernel
theorem dX6_build_110 : decode cX6_build 110 = .ok (.iload_n 2, 1) := by decide +kernel
theorem dX6_build_111 : decode cX6_build 111 = .ok (.bipush 64, 2) := by decide +kernel
theorem dX6_build_113 : decode cX6_build 113 = .ok (.idiv, 1) := by decide +kernel
theorem dX6_build_114 : decode cX6_build 114 = .ok (.iadd, 1) := by decide +kernel
theorem dX6_build_115 : decode cX6_build 115 = .ok (.laload, 1) := by decide +kernel
theorem dX6_build_116 : decode cX6_build 116 = .ok (.iload_n 2, 1) := by decide +kernel
theorem dX6_build_117 : decode cX6_build 117 = .ok (.bipush 64, 2) := by decide +kernel
theorem dX6_build_119 : decode cX6_build 119 = .ok (.irem, 1) := by decide +kernel
theorem dX6_build_120 : decode cX6_build 120 = .ok (.lshr, 1) := by decide +kernel
theorem dX6_build_121 : decode cX6_build 121 = .ok (.lconst 1, 1) := by decide +kernel
theorem dX6_build_122 : decode cX6_build 122 = .ok (.land, 1) := by decide +kernel
theorem dX6_build_123 : decode cX6_build 123 = .ok (.lconst 1, 1) := by decide +kernel
theorem dX6_build_124 : decode cX6_build 124 = .ok (.lcmp, 1) := by decide +kernel
theorem dX6_build_125 : decode cX6_build 125 = .ok (.ifCond .ne 15, 3) := by decide +kernel
theorem dX6_build_128 : decode cX6_build 128 = .ok (.aload_n 0, 1) := by decide +kernel
theorem dX6_build_129 : decode cX6_build 129 = .ok (.aload_n 0, 1) := by decide +kernel
theorem dX6_build_130 : decode cX6_build 130 = .ok (.getfield 162, 3) := by decide +kernel
theorem dX6_build_133 : decode cX6_build 133 = .ok (.iload_n 2, 1) := by decide +kernel
theorem dX6_build_134 : decode cX6_build 134 = .ok (.iaload, 1) := by decide +kernel
theorem dX6_build_135 : decode cX6_build 135 = .ok (.iconst 1, 1) := by decide +kernel
theorem dX6_build_136 : decode cX6_build 136 = .ok (.iadd, 1) := by decide +kernel
theorem dX6_build_137 : decode cX6_build 137 = .ok (.invokevirtual 133, 3) := by decide +kernel
theorem dX6_build_140 : decode cX6_build 140 = .ok (.iinc 2 1, 3) := by decide +kernel
theorem dX6_build_143 : decode cX6_build 143 = .ok (.goto (-49), 3) := by decide +kernel
theorem dX6_build_146 : decode cX6_build 146 = .ok (.aload_n 0, 1) := by decide +kernel
theorem dX6_build_147 : decode cX6_build 147 = .ok (.invokevirtual 168, 3) := by decide +kernel
theorem dX6_build_150 : decode cX6_build 150 = .ok (.istore_n 2, 1) := by decide +kernel
theorem dX6_build_151 : decode cX6_build 151 = .ok (.iload_n 1, 1) := by decide +kernel
theorem dX6_build_152 : decode cX6_build 152 = .ok (.ifCond .ne 17, 3) := by decide +kernel
theorem dX6_build_155 : decode cX6_build 155 = .ok (.aload_n 0, 1) := by decide +kernel
theorem dX6_build_156 : decode cX6_build 156 = .ok (.iload_n 2, 1) := by decide +kernel
theorem dX6_build_157 : decode cX6_build 157 = .ok (.iconst (-1), 1) := by decide +kernel
theorem dX6_build_158 : decode cX6_build 158 = .ok (.if_icmp .eq 7, 3) := by decide +kernel
theorem dX6_build_161 : decode cX6_build 161 = .ok (.iconst 1, 1) := by decide +kernel
theorem dX6_build_162 : decode cX6_build 162 = .ok (.goto 4, 3) := by decide +kernel
theorem dX6_build_165 : decode cX6_build 165 = .ok (.iconst 0, 1) := by decide +kernel
theorem dX6_build_166 : decode cX6_build 166 = .ok (.putfield 171, 3) := by decide +kernel
theorem dX6_build_169 : decode cX6_build 169 = .ok (.aload_n 0, 1) := by decide +kernel
theorem dX6_build_170 : decode cX6_build 170 = .ok (.getfield 175, 3) := by decide +kernel
theorem dX6_build_173 : decode cX6_build 173 = .ok (.iload_n 1, 1) := by decide +kernel
theorem dX6_build_174 : decode cX6_build 174 = .ok (.iload_n 1, 1) := by decide +kernel
theorem dX6_build_175 : decode cX6_build 175 = .ok (.ifCond .ne 7, 3) := by decide +kernel
theorem dX6_build_178 : decode cX6_build 178 = .ok (.iconst (-1), 1) := by decide +kernel
theorem dX6_build_179 : decode cX6_build 179 = .ok (.goto 4, 3) := by decide +kernel
theorem dX6_build_182 : decode cX6_build 182 = .ok (.iload_n 2, 1) := by decide +kernel
theorem dX6_build_183 : decode cX6_build 183 = .ok (.iastore, 1) := by decide +kernel
theorem dX6_build_184 : decode cX6_build 184 = .ok (.iconst 0, 1) := by decide +kernel
theorem dX6_build_185 : decode cX6_build 185 = .ok (.istore_n 3, 1) := by decide +kernel
theorem dX6_build_186 : decode cX6_build 186 = .ok (.iload_n 3, 1) := by decide +kernel
theorem dX6_build_187 : decode cX6_build 187 = .ok (.sipush 128, 3) := by decide +kernel
theorem dX6_build_190 : decode cX6_build 190 = .ok (.if_icmp .ge 145, 3) := by decide +kernel
theorem dX6_build_193 : decode cX6_build 193 = .ok (.iconst 0, 1) := by decide +kernel
theorem dX6_build_194 : decode cX6_build 194 = .ok (.istore 4, 2) := by decide +kernel
theorem dX6_build_196 : decode cX6_build 196 = .ok (.iload 4, 2) := by decide +kernel
theorem dX6_build_198 : decode cX6_build 198 = .ok (.bipush 7, 2) := by decide +kernel
theorem dX6_build_200 : decode cX6_build 200 = .ok (.if_icmp .ge 17, 3) := by decide +kernel
theorem dX6_build_203 : decode cX6_build 203 = .ok (.aload_n 0, 1) := by decide +kernel
theorem dX6_build_204 : decode cX6_build 204 = .ok (.getfield 139, 3) := by decide +kernel
theorem dX6_build_207 : decode cX6_build 207 = .ok (.iload 4, 2) := by decide +kernel
theorem dX6_build_209 : decode cX6_build 209 = .ok (.lconst 0, 1) := by decide +kernel
theorem dX6_build_210 : decode cX6_build 210 = .ok (.lastore, 1) := by decide +kernel
theorem dX6_build_211 : decode cX6_build 211 = .ok (.iinc 4 1, 3) := by decide +kernel
theorem dX6_build_214 : decode cX6_build 214 = .ok (.goto (-18), 3) := by decide +kernel
theorem dX6_build_217 : decode cX6_build 217 = .ok (.iconst 0, 1) := by decide +kernel
theorem dX6_build_218 : decode cX6_build 218 = .ok (.istore 4, 2) := by decide +kernel
theorem dX6_build_220 : decode cX6_build 220 = .ok (.iload 4, 2) := by decide +kernel
theorem dX6_build_222 : decode cX6_build 222 = .ok (.aload_n 0, 1) := by decide +kernel
theorem dX6_build_223 : decode cX6_build 223 = .ok (.getfield 127, 3) := by decide +kernel
theorem dX6_build_226 : decode cX6_build 226 = .ok (.if_icmp .ge 75, 3) := by decide +kernel
theorem dX6_build_229 : decode cX6_build 229 = .ok (.aload_n 0, 1) := by decide +kernel
theorem dX6_build_230 : decode cX6_build 230 = .ok (.getfield 130, 3) := by decide +kernel
theorem dX6_build_233 : decode cX6_build 233 = .ok (.iload 4, 2) := by decide +kernel
theorem dX6_build_235 : decode cX6_build 235 = .ok (.iaload, 1) := by decide +kernel
theorem dX6_build_236 : decode cX6_build 236 = .ok (.istore 5, 2) := by decide +kernel
theorem dX6_build_238 : decode cX6_build 238 = .ok (.iload_n 3, 1) := by decide +kernel
theorem dX6_build_239 : decode cX6_build 239 = .ok (.bipush 64, 2) := by decide +kernel
theorem dX6_build_241 : decode cX6_build 241 = .ok (.if_icmp .ge 15, 3) := by decide +kernel
theorem dX6_build_244 : decode cX6_build 244 = .ok (.aload_n 0, 1) := by decide +kernel
theorem dX6_build_245 : decode cX6_build 245 = .ok (.getfield 108, 3) := by decide +kernel
theorem dX6_build_248 : decode cX6_build 248 = .ok (.iload 5, 2) := by decide +kernel
theorem dX6_build_250 : decode cX6_build 250 = .ok (.laload, 1) := by decide +kernel
theorem dX6_build_251 : decode cX6_build 251 = .ok (.iload_n 3, 1) := by decide +kernel
theorem dX6_build_252 : decode cX6_build 252 = .ok (.lshr, 1) := by decide +kernel
theorem dX6_build_253 : decode cX6_build 253 = .ok (.goto 15, 3) := by decide +kernel
theorem dX6_build_256 : decode cX6_build 256 = .ok (.aload_n 0, 1) := by decide +kernel
theorem dX6_build_257 : decode cX6_build 257 = .ok (.getfield 112, 3) := by decide +kernel
theorem dX6_build_260 : decode cX6_build 260 = .ok (.iload 5, 2) := by decide +kernel
theorem dX6_build_262 : decode cX6_build 262 = .ok (.laload, 1) := by decide +kernel
theorem dX6_build_263 : decode cX6_build 263 = .ok (.iload_n 3, 1) := by decide +kernel
theorem dX6_build_264 : decode cX6_build 264 = .ok (.bipush 64, 2) := by decide +kernel
theorem dX6_build_266 : decode cX6_build 266 = .ok (.isub, 1) := by decide +kernel
theorem dX6_build_267 : decode cX6_build 267 = .ok (.lshr, 1) := by decide +kernel
theorem dX6_build_268 : decode cX6_build 268 = .ok (.lconst 1, 1) := by decide +kernel
theorem dX6_build_269 : decode cX6_build 269 = .ok (.land, 1) := by decide +kernel
theorem dX6_build_270 : decode cX6_build 270 = .ok (.lconst 1, 1) := by decide +kernel
theorem dX6_build_271 : decode cX6_build 271 = .ok (.lcmp, 1) := by decide +kernel
theorem dX6_build_272 : decode cX6_build 272 = .ok (.ifCond .ne 23, 3) := by decide +kernel
theorem dX6_build_275 : decode cX6_build 275 = .ok (.aload_n 0, 1) := by decide +kernel
theorem dX6_build_276 : decode cX6_build 276 = .ok (.getfield 139, 3) := by decide +kernel
theorem dX6_build_279 : decode cX6_build 279 = .ok (.iload 5, 2) := by decide +kernel
theorem dX6_build_281 : decode cX6_build 281 = .ok (.bipush 64, 2) := by decide +kernel
theorem dX6_build_283 : decode cX6_build 283 = .ok (.idiv, 1) := by decide +kernel
theorem dX6_build_284 : decode cX6_build 284 = .ok (.dup2, 1) := by decide +kernel
theorem dX6_build_285 : decode cX6_build 285 = .ok (.laload, 1) := by decide +kernel
theorem dX6_build_286 : decode cX6_build 286 = .ok (.lconst 1, 1) := by decide +kernel
theorem dX6_build_287 : decode cX6_build 287 = .ok (.iload 5, 2) := by decide +kernel
theorem dX6_build_289 : decode cX6_build 289 = .ok (.bipush 64, 2) := by decide +kernel
theorem dX6_build_291 : decode cX6_build 291 = .ok (.irem, 1) := by decide +kernel
theorem dX6_build_292 : decode cX6_build 292 = .ok (.lshl, 1) := by decide +kernel
theorem dX6_build_293 : decode cX6_build 293 = .ok (.lor, 1) := by decide +kernel
theorem dX6_build_294 : decode cX6_build 294 = .ok (.lastore, 1) := by decide +kernel
theorem dX6_build_295 : decode cX6_build 295 = .ok (.iinc 4 1, 3) := by decide +kernel
theorem dX6_build_298 : decode cX6_build 298 = .ok (.goto (-78), 3) := by decide +kernel
theorem dX6_build_301 : decode cX6_build 301 = .ok (.aload_n 0, 1) := by decide +kernel
theorem dX6_build_302 : decode cX6_build 302 = .ok (.invokevirtual 178, 3) := by decide +kernel
theorem dX6_build_305 : decode cX6_build 305 = .ok (.istore 4, 2) := by decide +kernel
theorem dX6_build_307 : decode cX6_build 307 = .ok (.iload 4, 2) := by decide +kernel
theorem dX6_build_309 : decode cX6_build 309 = .ok (.iconst (-1), 1) := by decide +kernel
theorem dX6_build_310 : decode cX6_build 310 = .ok (.if_icmp .ne 5, 3) := by decide +kernel
theorem dX6_build_313 : decode cX6_build 313 = .ok (.iconst 0, 1) := by decide +kernel
theorem dX6_build_314 : decode cX6_build 314 = .ok (.ireturn, 1) := by decide +kernel
theorem dX6_build_315 : decode cX6_build 315 = .ok (.aload_n 0, 1) := by decide +kernel
theorem dX6_build_316 : decode cX6_build 316 = .ok (.getfield 181, 3) := by decide +kernel
theorem dX6_build_319 : decode cX6_build 319 = .ok (.sipush 128, 3) := by decide +kernel
theorem dX6_build_322 : decode cX6_build 322 = .ok (.iload_n 1, 1) := by decide +kernel
theorem dX6_build_323 : decode cX6_build 323 = .ok (.imul, 1) := by decide +kernel
theorem dX6_build_324 : decode cX6_build 324 = .ok (.iload_n 3, 1) := by decide +kernel
theorem dX6_build_325 : decode cX6_build 325 = .ok (.iadd, 1) := by decide +kernel
theorem dX6_build_326 : decode cX6_build 326 = .ok (.iload 4, 2) := by decide +kernel
theorem dX6_build_328 : decode cX6_build 328 = .ok (.iastore, 1) := by decide +kernel
theorem dX6_build_329 : decode cX6_build 329 = .ok (.iinc 3 1, 3) := by decide +kernel
theorem dX6_build_332 : decode cX6_build 332 = .ok (.goto (-146), 3) := by decide +kernel
theorem dX6_build_335 : decode cX6_build 335 = .ok (.iinc 1 1, 3) := by decide +kernel
theorem dX6_build_338 : decode cX6_build 338 = .ok (.goto (-270), 3) := by decide +kernel
theorem dX6_build_341 : decode cX6_build 341 = .ok (.iconst 1, 1) := by decide +kernel
theorem dX6_build_342 : decode cX6_build 342 = .ok (.ireturn, 1) := by decide +kernel
theorem dX6_begin_0 : decode cX6_begin 0 = .ok (.aload_n 0, 1) := by decide +kernel
theorem dX6_begin_1 : decode cX6_begin 1 = .ok (.getfield 115, 3) := by decide +kernel
theorem dX6_begin_4 : decode cX6_begin 4 = .ok (.arraylength, 1) := by decide +kernel
theorem dX6_begin_5 : decode cX6_begin 5 = .ok (.aload_n 0, 1) := by decide +kernel
theorem dX6_begin_6 : decode cX6_begin 6 = .ok (.getfield 7, 3) := by decide +kernel
theorem dX6_begin_9 : decode cX6_begin 9 = .ok (.iconst 1, 1) := by decide +kernel
theorem dX6_begin_10 : decode cX6_begin 10 = .ok (.iadd, 1) := by decide +kernel
theorem dX6_begin_11 : decode cX6_begin 11 = .ok (.if_icmp .ge 32, 3) := by decide +kernel
theorem dX6_begin_14 : decode cX6_begin 14 = .ok (.aload_n 0, 1) := by decide +kernel
theorem dX6_begin_15 : decode cX6_begin 15 = .ok (.iconst 2, 1) := by decide +kernel
theorem dX6_begin_16 : decode cX6_begin 16 = .ok (.aload_n 0, 1) := by decide +kernel
theorem dX6_begin_17 : decode cX6_begin 17 = .ok (.getfield 7, 3) := by decide +kernel
theorem dX6_begin_20 : decode cX6_begin 20 = .ok (.imul, 1) := by decide +kernel
theorem dX6_begin_21 : decode cX6_begin 21 = .ok (.newarray .int, 2) := by decide +kernel
theorem dX6_begin_23 : decode cX6_begin 23 = .ok (.putfield 115, 3) := by decide +kernel
theorem dX6_begin_26 : decode cX6_begin 26 = .ok (.aload_n 0, 1) := by decide +kernel
theorem dX6_begin_27 : decode cX6_begin 27 = .ok (.iconst 2, 1) := by decide +kernel
theorem dX6_begin_28 : decode cX6_begin 28 = .ok (.aload_n 0, 1) := by decide +kernel
theorem dX6_begin_29 : decode cX6_begin 29 = .ok (.getfield 7, 3) := by decide +kernel
theorem dX6_begin_32 : decode cX6_begin 32 = .ok (.imul, 1) := by decide +kernel
theorem dX6_begin_33 : decode cX6_begin 33 = .ok (.newarray .int, 2) := by decide +kernel
theorem dX6_begin_35 : decode cX6_begin 35 = .ok (.putfield 121, 3) := by decide +kernel
theorem dX6_begin_38 : decode cX6_begin 38 = .ok (.aload_n 0, 1) := by decide +kernel
theorem dX6_begin_39 : decode cX6_begin 39 = .ok (.iconst 0, 1) := by decide +kernel
theorem dX6_begin_40 : decode cX6_begin 40 = .ok (.putfield 118, 3) := by decide +kernel
theorem dX6_begin_43 : decode cX6_begin 43 = .ok (.aload_n 0, 1) := by decide +kernel
theorem dX6_begin_44 : decode cX6_begin 44 = .ok (.dup, 1) := by decide +kernel
theorem dX6_begin_45 : decode cX6_begin 45 = .ok (.getfield 118, 3) := by decide +kernel
theorem dX6_begin_48 : decode cX6_begin 48 = .ok (.iconst 1, 1) := by decide +kernel
theorem dX6_begin_49 : decode cX6_begin 49 = .ok (.iadd, 1) := by decide +kernel
theorem dX6_begin_50 : decode cX6_begin 50 = .ok (.putfield 118, 3) := by decide +kernel
theorem dX6_begin_53 : decode cX6_begin 53 = .ok (.aload_n 0, 1) := by decide +kernel
theorem dX6_begin_54 : decode cX6_begin 54 = .ok (.iconst 0, 1) := by decide +kernel
theorem dX6_begin_55 : decode cX6_begin 55 = .ok (.putfield 124, 3) := by decide +kernel
theorem dX6_begin_58 : decode cX6_begin 58 = .ok (.return_, 1) := by decide +kernel
theorem dX6_reach_0 : decode cX6_reach 0 = .ok (.aload_n 0, 1) := by decide +kernel
theorem dX6_reach_1 : decode cX6_reach 1 = .ok (.getfield 115, 3) := by decide +kernel
theorem dX6_reach_4 : decode cX6_reach 4 = .ok (.iload_n 1, 1) := by decide +kernel
theorem dX6_reach_5 : decode cX6_reach 5 = .ok (.iaload, 1) := by decide +kernel
theorem dX6_reach_6 : decode cX6_reach 6 = .ok (.aload_n 0, 1) := by decide +kernel
theorem dX6_reach_7 : decode cX6_reach 7 = .ok (.getfield 118, 3) := by decide +kernel
theorem dX6_reach_10 : decode cX6_reach 10 = .ok (.if_icmp .ne 4, 3) := by decide +kernel
theorem dX6_reach_13 : decode cX6_reach 13 = .ok (.return_, 1) := by decide +kernel
theorem dX6_reach_14 : decode cX6_reach 14 = .ok (.aload_n 0, 1) := by decide +kernel
theorem dX6_reach_15 : decode cX6_reach 15 = .ok (.getfield 115, 3) := by decide +kernel
theorem dX6_reach_18 : decode cX6_reach 18 = .ok (.iload_n 1, 1) := by decide +kernel
theorem dX6_reach_19 : decode cX6_reach 19 = .ok (.aload_n 0, 1) := by decide +kernel
theorem dX6_reach_20 : decode cX6_reach 20 = .ok (.getfield 118, 3) := by decide +kernel
theorem dX6_reach_23 : decode cX6_reach 23 = .ok (.iastore, 1) := by decide +kernel
theorem dX6_reach_24 : decode cX6_reach 24 = .ok (.aload_n 0, 1) := by decide +kernel
theorem dX6_reach_25 : decode cX6_reach 25 = .ok (.getfield 121, 3) := by decide +kernel
theorem dX6_reach_28 : decode cX6_reach 28 = .ok (.aload_n 0, 1) := by decide +kernel
theorem dX6_reach_29 : decode cX6_reach 29 = .ok (.getfield 124, 3) := by decide +kernel
theorem dX6_reach_32 : decode cX6_reach 32 = .ok (.iload_n 1, 1) := by decide +kernel
theorem dX6_reach_33 : decode cX6_reach 33 = .ok (.iastore, 1) := by decide +kernel
theorem dX6_reach_34 : decode cX6_reach 34 = .ok (.aload_n 0, 1) := by decide +kernel
theorem dX6_reach_35 : decode cX6_reach 35 = .ok (.dup, 1) := by decide +kernel
theorem dX6_reach_36 : decode cX6_reach 36 = .ok (.getfield 124, 3) := by decide +kernel
theorem dX6_reach_39 : decode cX6_reach 39 = .ok (.iconst 1, 1) := by decide +kernel
theorem dX6_reach_40 : decode cX6_reach 40 = .ok (.iadd, 1) := by decide +kernel
theorem dX6_reach_41 : decode cX6_reach 41 = .ok (.putfield 124, 3) := by decide +kernel
theorem dX6_reach_44 : decode cX6_reach 44 = .ok (.return_, 1) := by decide +kernel
theorem dX6_closure_0 : decode cX6_closure 0 = .ok (.iconst (-1), 1) := by decide +kernel
theorem dX6_closure_1 : decode cX6_closure 1 = .ok (.istore_n 1, 1) := by decide +kernel
theorem dX6_closure_2 : decode cX6_closure 2 = .ok (.aload_n 0, 1) := by decide +kernel
theorem dX6_closure_3 : decode cX6_closure 3 = .ok (.iconst 0, 1) := by decide +kernel
theorem dX6_closure_4 : decode cX6_closure 4 = .ok (.putfield 127, 3) := by decide +kernel
theorem dX6_closure_7 : decode cX6_closure 7 = .ok (.aload_n 0, 1) := by decide +kernel
theorem dX6_closure_8 : decode cX6_closure 8 = .ok (.getfield 124, 3) := by decide +kernel
theorem dX6_closure_11 : decode cX6_closure 11 = .ok (.ifCond .le 127, 3) := by decide +kernel
theorem dX6_closure_14 : decode cX6_closure 14 = .ok (.aload_n 0, 1) := by decide +kernel
theorem dX6_closure_15 : decode cX6_closure 15 = .ok (.dup, 1) := by decide +kernel
theorem dX6_closure_16 : decode cX6_closure 16 = .ok (.getfield 124, 3) := by decide +kernel
theorem dX6_closure_19 : decode cX6_closure 19 = .ok (.iconst 1, 1) := by decide +kernel
theorem dX6_closure_20 : decode cX6_closure 20 = .ok (.isub, 1) := by decide +kernel
theorem dX6_closure_21 : decode cX6_closure 21 = .ok (.putfield 124, 3) := by decide +kernel
theorem dX6_closure_24 : decode cX6_closure 24 = .ok (.aload_n 0, 1) := by decide +kernel
theorem dX6_closure_25 : decode cX6_closure 25 = .ok (.getfield 121, 3) := by decide +kernel
theorem dX6_closure_28 : decode cX6_closure 28 = .ok (.aload_n 0, 1) := by decide +kernel
theorem dX6_closure_29 : decode cX6_closure 29 = .ok (.getfield 124, 3) := by decide +kernel
theorem dX6_closure_32 : decode cX6_closure 32 = .ok (.iaload, 1) := by decide +kernel
theorem dX6_closure_33 : decode cX6_closure 33 = .ok (.istore_n 2, 1) := by decide +kernel
theorem dX6_closure_34 : decode cX6_closure 34 = .ok (.aload_n 0, 1) := by decide +kernel
theorem dX6_closure_35 : decode cX6_closure 35 = .ok (.getfield 10, 3) := by decide +kernel
theorem dX6_closure_38 : decode cX6_closure 38 = .ok (.iload_n 2, 1) := by decide +kernel
theorem dX6_closure_39 : decode cX6_closure 39 = .ok (.iaload, 1) := by decide +kernel
theorem dX6_closure_40 : decode cX6_closure 40 = .ok (.ifCond .ne 31, 3) := by decide +kernel
theorem dX6_closure_43 : decode cX6_closure 43 = .ok (.aload_n 0, 1) := by decide +kernel
theorem dX6_closure_44 : decode cX6_closure 44 = .ok (.getfield 130, 3) := by decide +kernel
theorem dX6_closure_47 : decode cX6_closure 47 = .ok (.aload_n 0, 1) := by decide +kernel
theorem dX6_closure_48 : decode cX6_closure 48 = .ok (.getfield 127, 3) := by decide +kernel
theorem dX6_closure_51 : decode cX6_closure 51 = .ok (.aload_n 0, 1) := by decide +kernel
theorem dX6_closure_52 : decode cX6_closure 52 = .ok (.getfield 20, 3) := by decide +kernel
theorem dX6_closure_55 : decode cX6_closure 55 = .ok (.iload_n 2, 1) := by decide +kernel
theorem dX6_closure_56 : decode cX6_closure 56 = .ok (.iaload, 1) := by decide +kernel
theorem dX6_closure_57 : decode cX6_closure 57 = .ok (.iastore, 1) := by decide +kernel
theorem dX6_closure_58 : decode cX6_closure 58 = .ok (.aload_n 0, 1) := by decide +kernel
theorem dX6_closure_59 : decode cX6_closure 59 = .ok (.dup, 1) := by decide +kernel
theorem dX6_closure_60 : decode cX6_closure 60 = .ok (.getfield 127, 3) := by decide +kernel
theorem dX6_closure_63 : decode cX6_closure 63 = .ok (.iconst 1, 1) := by decide +kernel
theorem dX6_closure_64 : decode cX6_closure 64 = .ok (.iadd, 1) := by decide +kernel
theorem dX6_closure_65 : decode cX6_closure 65 = .ok (.putfield 127, 3) := by decide +kernel
theorem dX6_closure_68 : decode cX6_closure 68 = .ok (.goto 67, 3) := by decide +kernel
theorem dX6_closure_71 : decode cX6_closure 71 = .ok (.aload_n 0, 1) := by decide +kernel
theorem dX6_closure_72 : decode cX6_closure 72 = .ok (.getfield 10, 3) := by decide +kernel
theorem dX6_closure_75 : decode cX6_closure 75 = .ok (.iload_n 2, 1) := by decide +kernel
theorem dX6_closure_76 : decode cX6_closure 76 = .ok (.iaload, 1) := by decide +kernel
theorem dX6_closure_77 : decode cX6_closure 77 = .ok (.iconst 3, 1) := by decide +kernel
theorem dX6_closure_78 : decode cX6_closure 78 = .ok (.if_icmp .ne 28, 3) := by decide +kernel
theorem dX6_closure_81 : decode cX6_closure 81 = .ok (.iload_n 1, 1) := by decide +kernel
theorem dX6_closure_82 : decode cX6_closure 82 = .ok (.iconst (-1), 1) := by decide +kernel
theorem dX6_closure_83 : decode cX6_closure 83 = .ok (.if_icmp .eq 13, 3) := by decide +kernel
theorem dX6_closure_86 : decode cX6_closure 86 = .ok (.aload_n 0, 1) := by decide +kernel
theorem dX6_closure_87 : decode cX6_closure 87 = .ok (.getfield 20, 3) := by decide +kernel
theorem dX6_closure_90 : decode cX6_closure 90 = .ok (.iload_n 2, 1) := by decide +kernel
theorem dX6_closure_91 : decode cX6_closure 91 = .ok (.iaload, 1) := by decide +kernel
theorem dX6_closure_92 : decode cX6_closure 92 = .ok (.iload_n 1, 1) := by decide +kernel
theorem dX6_closure_93 : decode cX6_closure 93 = .ok (.if_icmp .ge 42, 3) := by decide +kernel
theorem dX6_closure_96 : decode cX6_closure 96 = .ok (.aload_n 0, 1) := by decide +kernel
theorem dX6_closure_97 : decode cX6_closure 97 = .ok (.getfield 20, 3) := by decide +kernel
theorem dX6_closure_100 : decode cX6_closure 100 = .ok (.iload_n 2, 1) := by decide +kernel
theorem dX6_closure_101 : decode cX6_closure 101 = .ok (.iaload, 1) := by decide +kernel
theorem dX6_closure_102 : decode cX6_closure 102 = .ok (.istore_n 1, 1) := by decide +kernel
theorem dX6_closure_103 : decode cX6_closure 103 = .ok (.goto 32, 3) := by decide +kernel
theorem dX6_closure_106 : decode cX6_closure 106 = .ok (.aload_n 0, 1) := by decide +kernel
theorem dX6_closure_107 : decode cX6_closure 107 = .ok (.iload_n 2, 1) := by decide +kernel
theorem dX6_closure_108 : decode cX6_closure 108 = .ok (.aload_n 0, 1) := by decide +kernel
theorem dX6_closure_109 : decode cX6_closure 109 = .ok (.getfield 20, 3) := by decide +kernel
theorem dX6_closure_112 : decode cX6_closure 112 = .ok (.iload_n 2, 1) := by decide +kernel
theorem dX6_closure_113 : decode cX6_closure 113 = .ok (.iaload, 1) := by decide +kernel
theorem dX6_closure_114 : decode cX6_closure 114 = .ok (.iadd, 1) := by decide +kernel
theorem dX6_closure_115 : decode cX6_closure 115 = .ok (.invokevirtual 133, 3) := by decide +kernel
theorem dX6_closure_118 : decode cX6_closure 118 = .ok (.aload_n 0, 1) := by decide +kernel
theorem dX6_closure_119 : decode cX6_closure 119 = .ok (.getfield 10, 3) := by decide +kernel
theorem dX6_closure_122 : decode cX6_closure 122 = .ok (.iload_n 2, 1) := by decide +kernel
theorem dX6_closure_123 : decode cX6_closure 123 = .ok (.iaload, 1) := by decide +kernel
theorem dX6_closure_124 : decode cX6_closure 124 = .ok (.iconst 1, 1) := by decide +kernel
theorem dX6_closure_125 : decode cX6_closure 125 = .ok (.if_icmp .ne 10, 3) := by decide +kernel
theorem dX6_closure_128 : decode cX6_closure 128 = .ok (.aload_n 0, 1) := by decide +kernel
theorem dX6_closure_129 : decode cX6_closure 129 = .ok (.iload_n 2, 1) := by decide +kernel
theorem dX6_closure_130 : decode cX6_closure 130 = .ok (.iconst 1, 1) := by decide +kernel
theorem dX6_closure_131 : decode cX6_closure 131 = .ok (.iadd, 1) := by decide +kernel
theorem dX6_closure_132 : decode cX6_closure 132 = .ok (.invokevirtual 133, 3) := by decide +kernel
theorem dX6_closure_135 : decode cX6_closure 135 = .ok (.goto (-128), 3) := by decide +kernel
theorem dX6_closure_138 : decode cX6_closure 138 = .ok (.iload_n 1, 1) := by decide +kernel
theorem dX6_closure_139 : decode cX6_closure 139 = .ok (.ireturn, 1) := by decide +kernel
theorem dX6_stateOf_0 : decode cX6_stateOf 0 = .ok (.aload_n 0, 1) := by decide +kernel
theorem dX6_stateOf_1 : decode cX6_stateOf 1 = .ok (.invokevirtual 146, 3) := by decide +kernel
theorem dX6_stateOf_4 : decode cX6_stateOf 4 = .ok (.istore_n 1, 1) := by decide +kernel
theorem dX6_stateOf_5 : decode cX6_stateOf 5 = .ok (.aload_n 0, 1) := by decide +kernel
theorem dX6_stateOf_6 : decode cX6_stateOf 6 = .ok (.getfield 150, 3) := by decide +kernel
theorem dX6_stateOf_9 : decode cX6_stateOf 9 = .ok (.iload_n 1, 1) := by decide +kernel
theorem dX6_stateOf_10 : decode cX6_stateOf 10 = .ok (.iaload, 1) := by decide +kernel
theorem dX6_stateOf_11 : decode cX6_stateOf 11 = .ok (.istore_n 2, 1) := by decide +kernel
theorem dX6_stateOf_12 : decode cX6_stateOf 12 = .ok (.iload_n 2, 1) := by decide +kernel
theorem dX6_stateOf_13 : decode cX6_stateOf 13 = .ok (.iconst (-1), 1) := by decide +kernel
theorem dX6_stateOf_14 : decode cX6_stateOf 14 = .ok (.if_icmp .eq 23, 3) := by decide +kernel
theorem dX6_stateOf_17 : decode cX6_stateOf 17 = .ok (.aload_n 0, 1) := by decide +kernel
theorem dX6_stateOf_18 : decode cX6_stateOf 18 = .ok (.iload_n 2, 1) := by decide +kernel
theorem dX6_stateOf_19 : decode cX6_stateOf 19 = .ok (.invokevirtual 153, 3) := by decide +kernel
theorem dX6_stateOf_22 : decode cX6_stateOf 22 = .ok (.ifCond .eq 5, 3) := by decide +kernel
theorem dX6_stateOf_25 : decode cX6_stateOf 25 = .ok (.iload_n 2, 1) := by decide +kernel
theorem dX6_stateOf_26 : decode cX6_stateOf 26 = .ok (.ireturn, 1) := by decide +kernel
theorem dX6_stateOf_27 : decode cX6_stateOf 27 = .ok (.aload_n 0, 1) := by decide +kernel
theorem dX6_stateOf_28 : decode cX6_stateOf 28 = .ok (.getfield 156, 3) := by decide +kernel
theorem dX6_stateOf_31 : decode cX6_stateOf 31 = .ok (.iload_n 2, 1) := by decide +kernel
theorem dX6_stateOf_32 : decode cX6_stateOf 32 = .ok (.iaload, 1) := by decide +kernel
theorem dX6_stateOf_33 : decode cX6_stateOf 33 = .ok (.istore_n 2, 1) := by decide +kernel
theorem dX6_stateOf_34 : decode cX6_stateOf 34 = .ok (.goto (-22), 3) := by decide +kernel
theorem dX6_stateOf_37 : decode cX6_stateOf 37 = .ok (.aload_n 0, 1) := by decide +kernel
theorem dX6_stateOf_38 : decode cX6_stateOf 38 = .ok (.getfield 159, 3) := by decide +kernel
theorem dX6_stateOf_41 : decode cX6_stateOf 41 = .ok (.sipush 400, 3) := by decide +kernel
theorem dX6_stateOf_44 : decode cX6_stateOf 44 = .ok (.if_icmp .le 5, 3) := by decide +kernel
theorem dX6_stateOf_47 : decode cX6_stateOf 47 = .ok (.iconst (-1), 1) := by decide +kernel
theorem dX6_stateOf_48 : decode cX6_stateOf 48 = .ok (.ireturn, 1) := by decide +kernel
theorem dX6_stateOf_49 : decode cX6_stateOf 49 = .ok (.iconst 0, 1) := by decide +kernel
theorem dX6_stateOf_50 : decode cX6_stateOf 50 = .ok (.istore_n 2, 1) := by decide +kernel
theorem dX6_stateOf_51 : decode cX6_stateOf 51 = .ok (.iload_n 2, 1) := by decide +kernel
theorem dX6_stateOf_52 : decode cX6_stateOf 52 = .ok (.bipush 7, 2) := by decide +kernel
theorem dX6_stateOf_54 : decode cX6_stateOf 54 = .ok (.if_icmp .ge 29, 3) := by decide +kernel
theorem dX6_stateOf_57 : decode cX6_stateOf 57 = .ok (.aload_n 0, 1) := by decide +kernel
theorem dX6_stateOf_58 : decode cX6_stateOf 58 = .ok (.getfield 136, 3) := by decide +kernel
theorem dX6_stateOf_61 : decode cX6_stateOf 61 = .ok (.bipush 7, 2) := by decide +kernel
theorem dX6_stateOf_63 : decode cX6_stateOf 63 = .ok (.aload_n 0, 1) := by decide +kernel
theorem dX6_stateOf_64 : decode cX6_stateOf 64 = .ok (.getfield 159, 3) := by decide +kernel
theorem dX6_stateOf_67 : decode cX6_stateOf 67 = .ok (.imul, 1) := by decide +kernel
theorem dX6_stateOf_68 : decode cX6_stateOf 68 = .ok (.iload_n 2, 1) := by decide +kernel
theorem dX6_stateOf_69 : decode cX6_stateOf 69 = .ok (.iadd, 1) := by decide +kernel
theorem dX6_stateOf_70 : decode cX6_stateOf 70 = .ok (.aload_n 0, 1) := by decide +kernel
theorem dX6_stateOf_71 : decode cX6_stateOf 71 = .ok (.getfield 139, 3) := by decide +kernel
theorem dX6_stateOf_74 : decode cX6_stateOf 74 = .ok (.iload_n 2, 1) := by decide +kernel
theorem dX6_stateOf_75 : decode cX6_stateOf 75 = .ok (.laload, 1) := by decide +kernel
theorem dX6_stateOf_76 : decode cX6_stateOf 76 = .ok (.lastore, 1) := by decide +kernel
theorem dX6_stateOf_77 : decode cX6_stateOf 77 = .ok (.iinc 2 1, 3) := by decide +kernel
theorem dX6_stateOf_80 : decode cX6_stateOf 80 = .ok (.goto (-29), 3) := by decide +kernel
theorem dX6_stateOf_83 : decode cX6_stateOf 83 = .ok (.aload_n 0, 1) := by decide +kernel
theorem dX6_stateOf_84 : decode cX6_stateOf 84 = .ok (.getfield 156, 3) := by decide +kernel
theorem dX6_stateOf_87 : decode cX6_stateOf 87 = .ok (.aload_n 0, 1) := by decide +kernel
theorem dX6_stateOf_88 : decode cX6_stateOf 88 = .ok (.getfield 159, 3) := by decide +kernel
theorem dX6_stateOf_91 : decode cX6_stateOf 91 = .ok (.aload_n 0, 1) := by decide +kernel
theorem dX6_stateOf_92 : decode cX6_stateOf 92 = .ok (.getfield 150, 3) := by decide +kernel
theorem dX6_stateOf_95 : decode cX6_stateOf 95 = .ok (.iload_n 1, 1) := by decide +kernel
theorem dX6_stateOf_96 : decode cX6_stateOf 96 = .ok (.iaload, 1) := by decide +kernel
theorem dX6_stateOf_97 : decode cX6_stateOf 97 = .ok (.iastore, 1) := by decide +kernel
theorem dX6_stateOf_98 : decode cX6_stateOf 98 = .ok (.aload_n 0, 1) := by decide +kernel
theorem dX6_stateOf_99 : decode cX6_stateOf 99 = .ok (.getfield 150, 3) := by decide +kernel
theorem dX6_stateOf_102 : decode cX6_stateOf 102 = .ok (.iload_n 1, 1) := by decide +kernel
theorem dX6_stateOf_103 : decode cX6_stateOf 103 = .ok (.aload_n 0, 1) := by decide +kernel
theorem dX6_stateOf_104 : decode cX6_stateOf 104 = .ok (.getfield 159, 3) := by decide +kernel
theorem dX6_stateOf_107 : decode cX6_stateOf 107 = .ok (.iastore, 1) := by decide +kernel
theorem dX6_stateOf_108 : decode cX6_stateOf 108 = .ok (.aload_n 0, 1) := by decide +kernel
theorem dX6_stateOf_109 : decode cX6_stateOf 109 = .ok (.dup, 1) := by decide +kernel
theorem dX6_stateOf_110 : decode cX6_stateOf 110 = .ok (.getfield 159, 3) := by decide +kernel
theorem dX6_stateOf_113 : decode cX6_stateOf 113 = .ok (.iconst 1, 1) := by decide +kernel
theorem dX6_stateOf_114 : decode cX6_stateOf 114 = .ok (.iadd, 1) := by decide +kernel
theorem dX6_stateOf_115 : decode cX6_stateOf 115 = .ok (.putfield 159, 3) := by decide +kernel
theorem dX6_stateOf_118 : decode cX6_stateOf 118 = .ok (.aload_n 0, 1) := by decide +kernel
theorem dX6_stateOf_119 : decode cX6_stateOf 119 = .ok (.getfield 159, 3) := by decide +kernel
theorem dX6_stateOf_122 : decode cX6_stateOf 122 = .ok (.iconst 1, 1) := by decide +kernel
theorem dX6_stateOf_123 : decode cX6_stateOf 123 = .ok (.isub, 1) := by decide +kernel
theorem dX6_stateOf_124 : decode cX6_stateOf 124 = .ok (.ireturn, 1) := by decide +kernel
theorem dX6_mixture_0 : decode cX6_mixture 0 = .ok (.ldc2_w 142, 3) := by decide +kernel
theorem dX6_mixture_3 : decode cX6_mixture 3 = .ok (.lstore_n 1, 1) := by decide +kernel
theorem dX6_mixture_4 : decode cX6_mixture 4 = .ok (.iconst 0, 1) := by decide +kernel
theorem dX6_mixture_5 : decode cX6_mixture 5 = .ok (.istore_n 3, 1) := by decide +kernel
theorem dX6_mixture_6 : decode cX6_mixture 6 = .ok (.iload_n 3, 1) := by decide +kernel
theorem dX6_mixture_7 : decode cX6_mixture 7 = .ok (.bipush 7, 2) := by decide +kernel
theorem dX6_mixture_9 : decode cX6_mixture 9 = .ok (.if_icmp .ge 32, 3) := by decide +kernel
theorem dX6_mixture_12 : decode cX6_mixture 12 = .ok (.ldc2_w 144, 3) := by decide +kernel
theorem dX6_mixture_15 : decode cX6_mixture 15 = .ok (.lload_n 1, 1) := by decide +kernel
theorem dX6_mixture_16 : decode cX6_mixture 16 = .ok (.lmul, 1) := by decide +kernel
theorem dX6_mixture_17 : decode cX6_mixture 17 = .ok (.aload_n 0, 1) := by decide +kernel
theorem dX6_mixture_18 : decode cX6_mixture 18 = .ok (.getfield 139, 3) := by decide +kernel
theorem dX6_mixture_21 : decode cX6_mixture 21 = .ok (.iload_n 3, 1) := by decide +kernel
theorem dX6_mixture_22 : decode cX6_mixture 22 = .ok (.laload, 1) := by decide +kernel
theorem dX6_mixture_23 : decode cX6_mixture 23 = .ok (.aload_n 0, 1) := by decide +kernel
theorem dX6_mixture_24 : decode cX6_mixture 24 = .ok (.getfield 139, 3) := by decide +kernel
theorem dX6_mixture_27 : decode cX6_mixture 27 = .ok (.iload_n 3, 1) := by decide +kernel
theorem dX6_mixture_28 : decode cX6_mixture 28 = .ok (.laload, 1) := by decide +kernel
theorem dX6_mixture_29 : decode cX6_mixture 29 = .ok (.bipush 29, 2) := by decide +kernel
theorem dX6_mixture_31 : decode cX6_mixture 31 = .ok (.lushr, 1) := by decide +kernel
theorem dX6_mixture_32 : decode cX6_mixture 32 = .ok (.lxor, 1) := by decide +kernel
theorem dX6_mixture_33 : decode cX6_mixture 33 = .ok (.ladd, 1) := by decide +kernel
theorem dX6_mixture_34 : decode cX6_mixture 34 = .ok (.lstore_n 1, 1) := by decide +kernel
theorem dX6_mixture_35 : decode cX6_mixture 35 = .ok (.iinc 3 1, 3) := by decide +kernel
theorem dX6_mixture_38 : decode cX6_mixture 38 = .ok (.goto (-32), 3) := by decide +kernel
theorem dX6_mixture_41 : decode cX6_mixture 41 = .ok (.lload_n 1, 1) := by decide +kernel
theorem dX6_mixture_42 : decode cX6_mixture 42 = .ok (.lload_n 1, 1) := by decide +kernel
theorem dX6_mixture_43 : decode cX6_mixture 43 = .ok (.bipush 17, 2) := by decide +kernel
theorem dX6_mixture_45 : decode cX6_mixture 45 = .ok (.lushr, 1) := by decide +kernel
theorem dX6_mixture_46 : decode cX6_mixture 46 = .ok (.lxor, 1) := by decide +kernel
theorem dX6_mixture_47 : decode cX6_mixture 47 = .ok (.l2i, 1) := by decide +kernel
theorem dX6_mixture_48 : decode cX6_mixture 48 = .ok (.sipush 1023, 3) := by decide +kernel
theorem dX6_mixture_51 : decode cX6_mixture 51 = .ok (.iand, 1) := by decide +kernel
theorem dX6_mixture_52 : decode cX6_mixture 52 = .ok (.ireturn, 1) := by decide +kernel
theorem dX6_isSet_0 : decode cX6_isSet 0 = .ok (.iconst 0, 1) := by decide +kernel
theorem dX6_isSet_1 : decode cX6_isSet 1 = .ok (.istore_n 2, 1) := by decide +kernel
theorem dX6_isSet_2 : decode cX6_isSet 2 = .ok (.iload_n 2, 1) := by decide +kernel
theorem dX6_isSet_3 : decode cX6_isSet 3 = .ok (.bipush 7, 2) := by decide +kernel
theorem dX6_isSet_5 : decode cX6_isSet 5 = .ok (.if_icmp .ge 32, 3) := by decide +kernel
theorem dX6_isSet_8 : decode cX6_isSet 8 = .ok (.aload_n 0, 1) := by decide +kernel
theorem dX6_isSet_9 : decode cX6_isSet 9 = .ok (.getfield 136, 3) := by decide +kernel
theorem dX6_isSet_12 : decode cX6_isSet 12 = .ok (.bipush 7, 2) := by decide +kernel
theorem dX6_isSet_14 : decode cX6_isSet 14 = .ok (.iload_n 1, 1) := by decide +kernel
theorem dX6_isSet_15 : decode cX6_isSet 15 = .ok (.imul, 1) := by decide +kernel
theorem dX6_isSet_16 : decode cX6_isSet 16 = .ok (.iload_n 2, 1) := by decide +kernel
theorem dX6_isSet_17 : decode cX6_isSet 17 = .ok (.iadd, 1) := by decide +kernel
theorem dX6_isSet_18 : decode cX6_isSet 18 = .ok (.laload, 1) := by decide +kernel
theorem dX6_isSet_19 : decode cX6_isSet 19 = .ok (.aload_n 0, 1) := by decide +kernel
theorem dX6_isSet_20 : decode cX6_isSet 20 = .ok (.getfield 139, 3) := by decide +kernel
theorem dX6_isSet_23 : decode cX6_isSet 23 = .ok (.iload_n 2, 1) := by decide +kernel
theorem dX6_isSet_24 : decode cX6_isSet 24 = .ok (.laload, 1) := by decide +kernel
theorem dX6_isSet_25 : decode cX6_isSet 25 = .ok (.lcmp, 1) := by decide +kernel
theorem dX6_isSet_26 : decode cX6_isSet 26 = .ok (.ifCond .eq 5, 3) := by decide +kernel
theorem dX6_isSet_29 : decode cX6_isSet 29 = .ok (.iconst 0, 1) := by decide +kernel
theorem dX6_isSet_30 : decode cX6_isSet 30 = .ok (.ireturn, 1) := by decide +kernel
theorem dX6_isSet_31 : decode cX6_isSet 31 = .ok (.iinc 2 1, 3) := by decide +kernel
theorem dX6_isSet_34 : decode cX6_isSet 34 = .ok (.goto (-32), 3) := by decide +kernel
theorem dX6_isSet_37 : decode cX6_isSet 37 = .ok (.iconst 1, 1) := by decide +kernel
theorem dX6_isSet_38 : decode cX6_isSet 38 = .ok (.ireturn, 1) := by decide +kernel
theorem dX6_findLiving_0 : decode cX6_findLiving 0 = .ok (.iconst 0, 1) := by decide +kernel
theorem dX6_findLiving_1 : decode cX6_findLiving 1 = .ok (.istore_n 1, 1) := by decide +kernel
theorem dX6_findLiving_2 : decode cX6_findLiving 2 = .ok (.iload_n 1, 1) := by decide +kernel
theorem dX6_findLiving_3 : decode cX6_findLiving 3 = .ok (.aload_n 0, 1) := by decide +kernel
theorem dX6_findLiving_4 : decode cX6_findLiving 4 = .ok (.getfield 159, 3) := by decide +kernel
theorem dX6_findLiving_7 : decode cX6_findLiving 7 = .ok (.if_icmp .ge 30, 3) := by decide +kernel
theorem dX6_findLiving_10 : decode cX6_findLiving 10 = .ok (.aload_n 0, 1) := by decide +kernel
theorem dX6_findLiving_11 : decode cX6_findLiving 11 = .ok (.getfield 184, 3) := by decide +kernel
theorem dX6_findLiving_14 : decode cX6_findLiving 14 = .ok (.iload_n 1, 1) := by decide +kernel
theorem dX6_findLiving_15 : decode cX6_findLiving 15 = .ok (.aload_n 0, 1) := by decide +kernel
theorem dX6_findLiving_16 : decode cX6_findLiving 16 = .ok (.getfield 175, 3) := by decide +kernel
theorem dX6_findLiving_19 : decode cX6_findLiving 19 = .ok (.iload_n 1, 1) := by decide +kernel
theorem dX6_findLiving_20 : decode cX6_findLiving 20 = .ok (.iaload, 1) := by decide +kernel
theorem dX6_findLiving_21 : decode cX6_findLiving 21 = .ok (.iconst (-1), 1) := by decide +kernel
theorem dX6_findLiving_22 : decode cX6_findLiving 22 = .ok (.if_icmp .eq 7, 3) := by decide +kernel
theorem dX6_findLiving_25 : decode cX6_findLiving 25 = .ok (.iconst 1, 1) := by decide +kernel
theorem dX6_findLiving_26 : decode cX6_findLiving 26 = .ok (.goto 4, 3) := by decide +kernel
theorem dX6_findLiving_29 : decode cX6_findLiving 29 = .ok (.iconst 0, 1) := by decide +kernel
theorem dX6_findLiving_30 : decode cX6_findLiving 30 = .ok (.bastore, 1) := by decide +kernel
theorem dX6_findLiving_31 : decode cX6_findLiving 31 = .ok (.iinc 1 1, 3) := by decide +kernel
theorem dX6_findLiving_34 : decode cX6_findLiving 34 = .ok (.goto (-32), 3) := by decide +kernel
theorem dX6_findLiving_37 : decode cX6_findLiving 37 = .ok (.iconst 1, 1) := by decide +kernel
theorem dX6_findLiving_38 : decode cX6_findLiving 38 = .ok (.istore_n 1, 1) := by decide +kernel
theorem dX6_findLiving_39 : decode cX6_findLiving 39 = .ok (.iload_n 1, 1) := by decide +kernel
theorem dX6_findLiving_40 : decode cX6_findLiving 40 = .ok (.ifCond .eq 91, 3) := by decide +kernel
theorem dX6_findLiving_43 : decode cX6_findLiving 43 = .ok (.iconst 0, 1) := by decide +kernel
theorem dX6_findLiving_44 : decode cX6_findLiving 44 = .ok (.istore_n 1, 1) := by decide +kernel
theorem dX6_findLiving_45 : decode cX6_findLiving 45 = .ok (.aload_n 0, 1) := by decide +kernel
theorem dX6_findLiving_46 : decode cX6_findLiving 46 = .ok (.getfield 159, 3) := by decide +kernel
theorem dX6_findLiving_49 : decode cX6_findLiving 49 = .ok (.iconst 1, 1) := by decide +kernel
theorem dX6_findLiving_50 : decode cX6_findLiving 50 = .ok (.isub, 1) := by decide +kernel
theorem dX6_findLiving_51 : decode cX6_findLiving 51 = .ok (.istore_n 2, 1) := by decide +kernel
theorem dX6_findLiving_52 : decode cX6_findLiving 52 = .ok (.iload_n 2, 1) := by decide +kernel
theorem dX6_findLiving_53 : decode cX6_findLiving 53 = .ok (.ifCond .lt 75, 3) := by decide +kernel
theorem dX6_findLiving_56 : decode cX6_findLiving 56 = .ok (.iconst 0, 1) := by decide +kernel
theorem dX6_findLiving_57 : decode cX6_findLiving 57 = .ok (.istore_n 3, 1) := by decide +kernel
theorem dX6_findLiving_58 : decode cX6_findLiving 58 = .ok (.iload_n 3, 1) := by decide +kernel
theorem dX6_findLiving_59 : decode cX6_findLiving 59 = .ok (.sipush 128, 3) := by decide +kernel
theorem dX6_findLiving_62 : decode cX6_findLiving 62 = .ok (.if_icmp .ge 60, 3) := by decide +kernel
theorem dX6_findLiving_65 : decode cX6_findLiving 65 = .ok (.aload_n 0, 1) := by decide +kernel
theorem dX6_findLiving_66 : decode cX6_findLiving 66 = .ok (.getfield 184, 3) := by decide +kernel
theorem dX6_findLiving_69 : decode cX6_findLiving 69 = .ok (.iload_n 2, 1) := by decide +kernel
theorem dX6_findLiving_70 : decode cX6_findLiving 70 = .ok (.baload, 1) := by decide +kernel
theorem dX6_findLiving_71 : decode cX6_findLiving 71 = .ok (.ifCond .ne 51, 3) := by decide +kernel
theorem dX6_findLiving_74 : decode cX6_findLiving 74 = .ok (.aload_n 0, 1) := by decide +kernel
theorem dX6_findLiving_75 : decode cX6_findLiving 75 = .ok (.getfield 184, 3) := by decide +kernel
theorem dX6_findLiving_78 : decode cX6_findLiving 78 = .ok (.iload_n 2, 1) := by decide +kernel
theorem dX6_findLiving_79 : decode cX6_findLiving 79 = .ok (.aload_n 0, 1) := by decide +kernel
theorem dX6_findLiving_80 : decode cX6_findLiving 80 = .ok (.getfield 184, 3) := by decide +kernel
theorem dX6_findLiving_83 : decode cX6_findLiving 83 = .ok (.aload_n 0, 1) := by decide +kernel
theorem dX6_findLiving_84 : decode cX6_findLiving 84 = .ok (.getfield 181, 3) := by decide +kernel
theorem dX6_findLiving_87 : decode cX6_findLiving 87 = .ok (.sipush 128, 3) := by decide +kernel
theorem dX6_findLiving_90 : decode cX6_findLiving 90 = .ok (.iload_n 2, 1) := by decide +kernel
theorem dX6_findLiving_91 : decode cX6_findLiving 91 = .ok (.imul, 1) := by decide +kernel
theorem dX6_findLiving_92 : decode cX6_findLiving 92 = .ok (.iload_n 3, 1) := by decide +kernel
theorem dX6_findLiving_93 : decode cX6_findLiving 93 = .ok (.iadd, 1) := by decide +kernel
theorem dX6_findLiving_94 : decode cX6_findLiving 94 = .ok (.iaload, 1) := by decide +kernel
theorem dX6_findLiving_95 : decode cX6_findLiving 95 = .ok (.baload, 1) := by decide +kernel
theorem dX6_findLiving_96 : decode cX6_findLiving 96 = .ok (.bastore, 1) := by decide +kernel
theorem dX6_findLiving_97 : decode cX6_findLiving 97 = .ok (.iload_n 1, 1) := by decide +kernel
theorem dX6_findLiving_98 : decode cX6_findLiving 98 = .ok (.ifCond .ne 12, 3) := by decide +kernel
theorem dX6_findLiving_101 : decode cX6_findLiving 101 = .ok (.aload_n 0, 1) := by decide +kernel
theorem dX6_findLiving_102 : decode cX6_findLiving 102 = .ok (.getfield 184, 3) := by decide +kernel
theorem dX6_findLiving_105 : decode cX6_findLiving 105 = .ok (.iload_n 2, 1) := by decide +kernel
theorem dX6_findLiving_106 : decode cX6_findLiving 106 = .ok (.baload, 1) := by decide +kernel
theorem dX6_findLiving_107 : decode cX6_findLiving 107 = .ok (.ifCond .eq 7, 3) := by decide +kernel
theorem dX6_findLiving_110 : decode cX6_findLiving 110 = .ok (.iconst 1, 1) := by decide +kernel
theorem dX6_findLiving_111 : decode cX6_findLiving 111 = .ok (.goto 4, 3) := by decide +kernel
theorem dX6_findLiving_114 : decode cX6_findLiving 114 = .ok (.iconst 0, 1) := by decide +kernel
theorem dX6_findLiving_115 : decode cX6_findLiving 115 = .ok (.istore_n 1, 1) := by decide +kernel
theorem dX6_findLiving_116 : decode cX6_findLiving 116 = .ok (.iinc 3 1, 3) := by decide +kernel
theorem dX6_findLiving_119 : decode cX6_findLiving 119 = .ok (.goto (-61), 3) := by decide +kernel
theorem dX6_findLiving_122 : decode cX6_findLiving 122 = .ok (.iinc 2 (-1), 3) := by decide +kernel
theorem dX6_findLiving_125 : decode cX6_findLiving 125 = .ok (.goto (-73), 3) := by decide +kernel
theorem dX6_findLiving_128 : decode cX6_findLiving 128 = .ok (.goto (-89), 3) := by decide +kernel
theorem dX6_findLiving_131 : decode cX6_findLiving 131 = .ok (.return_, 1) := by decide +kernel
theorem dX6_findKinds_0 : decode cX6_findKinds 0 = .ok (.iconst 0, 1) := by decide +kernel
theorem dX6_findKinds_1 : decode cX6_findKinds 1 = .ok (.istore_n 1, 1) := by decide +kernel
theorem dX6_findKinds_2 : decode cX6_findKinds 2 = .ok (.iload_n 1, 1) := by decide +kernel
theorem dX6_findKinds_3 : decode cX6_findKinds 3 = .ok (.aload_n 0, 1) := by decide +kernel
theorem dX6_findKinds_4 : decode cX6_findKinds 4 = .ok (.getfield 159, 3) := by decide +kernel
theorem dX6_findKinds_7 : decode cX6_findKinds 7 = .ok (.if_icmp .ge 23, 3) := by decide +kernel
theorem dX6_findKinds_10 : decode cX6_findKinds 10 = .ok (.aload_n 0, 1) := by decide +kernel
theorem dX6_findKinds_11 : decode cX6_findKinds 11 = .ok (.getfield 187, 3) := by decide +kernel
theorem dX6_findKinds_14 : decode cX6_findKinds 14 = .ok (.iload_n 1, 1) := by decide +kernel
theorem dX6_findKinds_15 : decode cX6_findKinds 15 = .ok (.aload_n 0, 1) := by decide +kernel
theorem dX6_findKinds_16 : decode cX6_findKinds 16 = .ok (.getfield 175, 3) := by decide +kernel
theorem dX6_findKinds_19 : decode cX6_findKinds 19 = .ok (.iload_n 1, 1) := by decide +kernel
theorem dX6_findKinds_20 : decode cX6_findKinds 20 = .ok (.iaload, 1) := by decide +kernel
theorem dX6_findKinds_21 : decode cX6_findKinds 21 = .ok (.iconst 1, 1) := by decide +kernel
theorem dX6_findKinds_22 : decode cX6_findKinds 22 = .ok (.iadd, 1) := by decide +kernel
theorem dX6_findKinds_23 : decode cX6_findKinds 23 = .ok (.iastore, 1) := by decide +kernel
theorem dX6_findKinds_24 : decode cX6_findKinds 24 = .ok (.iinc 1 1, 3) := by decide +kernel
theorem dX6_findKinds_27 : decode cX6_findKinds 27 = .ok (.goto (-25), 3) := by decide +kernel
theorem dX6_findKinds_30 : decode cX6_findKinds 30 = .ok (.iconst 0, 1) := by decide +kernel
theorem dX6_findKinds_31 : decode cX6_findKinds 31 = .ok (.istore_n 1, 1) := by decide +kernel
theorem dX6_findKinds_32 : decode cX6_findKinds 32 = .ok (.aload_n 0, 1) := by decide +kernel
theorem dX6_findKinds_33 : decode cX6_findKinds 33 = .ok (.iconst 1, 1) := by decide +kernel
theorem dX6_findKinds_34 : decode cX6_findKinds 34 = .ok (.putfield 193, 3) := by decide +kernel
theorem dX6_findKinds_37 : decode cX6_findKinds 37 = .ok (.aload_n 0, 1) := by decide +kernel
theorem dX6_findKinds_38 : decode cX6_findKinds 38 = .ok (.getfield 193, 3) := by decide +kernel
theorem dX6_findKinds_41 : decode cX6_findKinds 41 = .ok (.iload_n 1, 1) := by decide +kernel
theorem dX6_findKinds_42 : decode cX6_findKinds 42 = .ok (.if_icmp .eq 202, 3) := by decide +kernel
theorem dX6_findKinds_45 : decode cX6_findKinds 45 = .ok (.aload_n 0, 1) := by decide +kernel
theorem dX6_findKinds_46 : decode cX6_findKinds 46 = .ok (.getfield 193, 3) := by decide +kernel
theorem dX6_findKinds_49 : decode cX6_findKinds 49 = .ok (.istore_n 1, 1) := by decide +kernel
theorem dX6_findKinds_50 : decode cX6_findKinds 50 = .ok (.iconst 0, 1) := by decide +kernel
theorem dX6_findKinds_51 : decode cX6_findKinds 51 = .ok (.istore_n 2, 1) := by decide +kernel
theorem dX6_findKinds_52 : decode cX6_findKinds 52 = .ok (.iload_n 2, 1) := by decide +kernel
theorem dX6_findKinds_53 : decode cX6_findKinds 53 = .ok (.aload_n 0, 1) := by decide +kernel
theorem dX6_findKinds_54 : decode cX6_findKinds 54 = .ok (.getfield 150, 3) := by decide +kernel
theorem dX6_findKinds_57 : decode cX6_findKinds 57 = .ok (.arraylength, 1) := by decide +kernel
theorem dX6_findKinds_58 : decode cX6_findKinds 58 = .ok (.if_icmp .ge 16, 3) := by decide +kernel
theorem dX6_findKinds_61 : decode cX6_findKinds 61 = .ok (.aload_n 0, 1) := by decide +kernel
theorem dX6_findKinds_62 : decode cX6_findKinds 62 = .ok (.getfield 150, 3) := by decide +kernel
theorem dX6_findKinds_65 : decode cX6_findKinds 65 = .ok (.iload_n 2, 1) := by decide +kernel
theorem dX6_findKinds_66 : decode cX6_findKinds 66 = .ok (.iconst (-1), 1) := by decide +kernel
theorem dX6_findKinds_67 : decode cX6_findKinds 67 = .ok (.iastore, 1) := by decide +kernel
theorem dX6_findKinds_68 : decode cX6_findKinds 68 = .ok (.iinc 2 1, 3) := by decide +kernel
theorem dX6_findKinds_71 : decode cX6_findKinds 71 = .ok (.goto (-19), 3) := by decide +kernel
theorem dX6_findKinds_74 : decode cX6_findKinds 74 = .ok (.aload_n 0, 1) := by decide +kernel
theorem dX6_findKinds_75 : decode cX6_findKinds 75 = .ok (.iconst 0, 1) := by decide +kernel
theorem dX6_findKinds_76 : decode cX6_findKinds 76 = .ok (.putfield 193, 3) := by decide +kernel
theorem dX6_findKinds_79 : decode cX6_findKinds 79 = .ok (.iconst 0, 1) := by decide +kernel
theorem dX6_findKinds_80 : decode cX6_findKinds 80 = .ok (.istore_n 2, 1) := by decide +kernel
theorem dX6_findKinds_81 : decode cX6_findKinds 81 = .ok (.iload_n 2, 1) := by decide +kernel
theorem dX6_findKinds_82 : decode cX6_findKinds 82 = .ok (.aload_n 0, 1) := by decide +kernel
theorem dX6_findKinds_83 : decode cX6_findKinds 83 = .ok (.getfield 159, 3) := by decide +kernel
theorem dX6_findKinds_86 : decode cX6_findKinds 86 = .ok (.if_icmp .ge 127, 3) := by decide +kernel
theorem dX6_findKinds_89 : decode cX6_findKinds 89 = .ok (.aload_n 0, 1) := by decide +kernel
theorem dX6_findKinds_90 : decode cX6_findKinds 90 = .ok (.getfield 184, 3) := by decide +kernel
theorem dX6_findKinds_93 : decode cX6_findKinds 93 = .ok (.iload_n 2, 1) := by decide +kernel
theorem dX6_findKinds_94 : decode cX6_findKinds 94 = .ok (.baload, 1) := by decide +kernel
theorem dX6_findKinds_95 : decode cX6_findKinds 95 = .ok (.ifCond .ne 6, 3) := by decide +kernel
theorem dX6_findKinds_98 : decode cX6_findKinds 98 = .ok (.goto 109, 3) := by decide +kernel
theorem dX6_findKinds_101 : decode cX6_findKinds 101 = .ok (.aload_n 0, 1) := by decide +kernel
theorem dX6_findKinds_102 : decode cX6_findKinds 102 = .ok (.iload_n 2, 1) := by decide +kernel
theorem dX6_findKinds_103 : decode cX6_findKinds 103 = .ok (.invokevirtual 196, 3) := by decide +kernel
theorem dX6_findKinds_106 : decode cX6_findKinds 106 = .ok (.istore_n 3, 1) := by decide +kernel
theorem dX6_findKinds_107 : decode cX6_findKinds 107 = .ok (.aload_n 0, 1) := by decide +kernel
theorem dX6_findKinds_108 : decode cX6_findKinds 108 = .ok (.getfield 150, 3) := by decide +kernel
theorem dX6_findKinds_111 : decode cX6_findKinds 111 = .ok (.iload_n 3, 1) := by decide +kernel
theorem dX6_findKinds_112 : decode cX6_findKinds 112 = .ok (.iaload, 1) := by decide +kernel
theorem dX6_findKinds_113 : decode cX6_findKinds 113 = .ok (.istore 4, 2) := by decide +kernel
theorem dX6_findKinds_115 : decode cX6_findKinds 115 = .ok (.iload 4, 2) := by decide +kernel
theorem dX6_findKinds_117 : decode cX6_findKinds 117 = .ok (.iconst (-1), 1) := by decide +kernel
theorem dX6_findKinds_118 : decode cX6_findKinds 118 = .ok (.if_icmp .eq 30, 3) := by decide +kernel
theorem dX6_findKinds_121 : decode cX6_findKinds 121 = .ok (.aload_n 0, 1) := by decide +kernel
theorem dX6_findKinds_122 : decode cX6_findKinds 122 = .ok (.aload_n 0, 1) := by decide +kernel
theorem dX6_findKinds_123 : decode cX6_findKinds 123 = .ok (.getfield 199, 3) := by decide +kernel
theorem dX6_findKinds_126 : decode cX6_findKinds 126 = .ok (.iload 4, 2) := by decide +kernel
theorem dX6_findKinds_128 : decode cX6_findKinds 128 = .ok (.iaload, 1) := by decide +kernel
theorem dX6_findKinds_129 : decode cX6_findKinds 129 = .ok (.iload_n 2, 1) := by decide +kernel
theorem dX6_findKinds_130 : decode cX6_findKinds 130 = .ok (.invokevirtual 202, 3) := by decide +kernel
theorem dX6_findKinds_133 : decode cX6_findKinds 133 = .ok (.ifCond .ne 15, 3) := by decide +kernel
theorem dX6_findKinds_136 : decode cX6_findKinds 136 = .ok (.aload_n 0, 1) := by decide +kernel
theorem dX6_findKinds_137 : decode cX6_findKinds 137 = .ok (.getfield 156, 3) := by decide +kernel
theorem dX6_findKinds_140 : decode cX6_findKinds 140 = .ok (.iload 4, 2) := by decide +kernel
theorem dX6_findKinds_142 : decode cX6_findKinds 142 = .ok (.iaload, 1) := by decide +kernel
theorem dX6_findKinds_143 : decode cX6_findKinds 143 = .ok (.istore 4, 2) := by decide +kernel
theorem dX6_findKinds_145 : decode cX6_findKinds 145 = .ok (.goto (-30), 3) := by decide +kernel
theorem dX6_findKinds_148 : decode cX6_findKinds 148 = .ok (.iload 4, 2) := by decide +kernel
theorem dX6_findKinds_150 : decode cX6_findKinds 150 = .ok (.iconst (-1), 1) := by decide +kernel
theorem dX6_findKinds_151 : decode cX6_findKinds 151 = .ok (.if_icmp .ne 48, 3) := by decide +kernel
theorem dX6_findKinds_154 : decode cX6_findKinds 154 = .ok (.aload_n 0, 1) := by decide +kernel
theorem dX6_findKinds_155 : decode cX6_findKinds 155 = .ok (.getfield 193, 3) := by decide +kernel
theorem dX6_findKinds_158 : decode cX6_findKinds 158 = .ok (.istore 4, 2) := by decide +kernel
theorem dX6_findKinds_160 : decode cX6_findKinds 160 = .ok (.aload_n 0, 1) := by decide +kernel
theorem dX6_findKinds_161 : decode cX6_findKinds 161 = .ok (.getfield 199, 3) := by decide +kernel
theorem dX6_findKinds_164 : decode cX6_findKinds 164 = .ok (.iload 4, 2) := by decide +kernel
theorem dX6_findKinds_166 : decode cX6_findKinds 166 = .ok (.iload_n 2, 1) := by decide +kernel
theorem dX6_findKinds_167 : decode cX6_findKinds 167 = .ok (.iastore, 1) := by decide +kernel
theorem dX6_findKinds_168 : decode cX6_findKinds 168 = .ok (.aload_n 0, 1) := by decide +kernel
theorem dX6_findKinds_169 : decode cX6_findKinds 169 = .ok (.getfield 156, 3) := by decide +kernel
theorem dX6_findKinds_172 : decode cX6_findKinds 172 = .ok (.iload 4, 2) := by decide +kernel
theorem dX6_findKinds_174 : decode cX6_findKinds 174 = .ok (.aload_n 0, 1) := by decide +kernel
theorem dX6_findKinds_175 : decode cX6_findKinds 175 = .ok (.getfield 150, 3) := by decide +kernel
theorem dX6_findKinds_178 : decode cX6_findKinds 178 = .ok (.iload_n 3, 1) := by decide +kernel
theorem dX6_findKinds_179 : decode cX6_findKinds 179 = .ok (.iaload, 1) := by decide +kernel
theorem dX6_findKinds_180 : decode cX6_findKinds 180 = .ok (.iastore, 1) := by decide +kernel
theorem dX6_findKinds_181 : decode cX6_findKinds 181 = .ok (.aload_n 0, 1) := by decide +kernel
theorem dX6_findKinds_182 : decode cX6_findKinds 182 = .ok (.getfield 150, 3) := by decide +kernel
theorem dX6_findKinds_185 : decode cX6_findKinds 185 = .ok (.iload_n 3, 1) := by decide +kernel
theorem dX6_findKinds_186 : decode cX6_findKinds 186 = .ok (.iload 4, 2) := by decide +kernel
theorem dX6_findKinds_188 : decode cX6_findKinds 188 = .ok (.iastore, 1) := by decide +kernel
theorem dX6_findKinds_189 : decode cX6_findKinds 189 = .ok (.aload_n 0, 1) := by decide +kernel
theorem dX6_findKinds_190 : decode cX6_findKinds 190 = .ok (.dup, 1) := by decide +kernel
theorem dX6_findKinds_191 : decode cX6_findKinds 191 = .ok (.getfield 193, 3) := by decide +kernel
theorem dX6_findKinds_194 : decode cX6_findKinds 194 = .ok (.iconst 1, 1) := by decide +kernel
theorem dX6_findKinds_195 : decode cX6_findKinds 195 = .ok (.iadd, 1) := by decide +kernel
theorem dX6_findKinds_196 : decode cX6_findKinds 196 = .ok (.putfield 193, 3) := by decide +kernel
theorem dX6_findKinds_199 : decode cX6_findKinds 199 = .ok (.aload_n 0, 1) := by decide +kernel
theorem dX6_findKinds_200 : decode cX6_findKinds 200 = .ok (.getfield 206, 3) := by decide +kernel
theorem dX6_findKinds_203 : decode cX6_findKinds 203 = .ok (.iload_n 2, 1) := by decide +kernel
theorem dX6_findKinds_204 : decode cX6_findKinds 204 = .ok (.iload 4, 2) := by decide +kernel
theorem dX6_findKinds_206 : decode cX6_findKinds 206 = .ok (.iastore, 1) := by decide +kernel
theorem dX6_findKinds_207 : decode cX6_findKinds 207 = .ok (.iinc 2 1, 3) := by decide +kernel
theorem dX6_findKinds_210 : decode cX6_findKinds 210 = .ok (.goto (-129), 3) := by decide +kernel
theorem dX6_findKinds_213 : decode cX6_findKinds 213 = .ok (.iconst 0, 1) := by decide +kernel
theorem dX6_findKinds_214 : decode cX6_findKinds 214 = .ok (.istore_n 2, 1) := by decide +kernel
theorem dX6_findKinds_215 : decode cX6_findKinds 215 = .ok (.iload_n 2, 1) := by decide +kernel
theorem dX6_findKinds_216 : decode cX6_findKinds 216 = .ok (.aload_n 0, 1) := by decide +kernel
theorem dX6_findKinds_217 : decode cX6_findKinds 217 = .ok (.getfield 159, 3) := by decide +kernel
theorem dX6_findKinds_220 : decode cX6_findKinds 220 = .ok (.if_icmp .ge 21, 3) := by decide +kernel
theorem dX6_findKinds_223 : decode cX6_findKinds 223 = .ok (.aload_n 0, 1) := by decide +kernel
theorem dX6_findKinds_224 : decode cX6_findKinds 224 = .ok (.getfield 187, 3) := by decide +kernel
theorem dX6_findKinds_227 : decode cX6_findKinds 227 = .ok (.iload_n 2, 1) := by decide +kernel
theorem dX6_findKinds_228 : decode cX6_findKinds 228 = .ok (.aload_n 0, 1) := by decide +kernel
theorem dX6_findKinds_229 : decode cX6_findKinds 229 = .ok (.getfield 206, 3) := by decide +kernel
theorem dX6_findKinds_232 : decode cX6_findKinds 232 = .ok (.iload_n 2, 1) := by decide +kernel
theorem dX6_findKinds_233 : decode cX6_findKinds 233 = .ok (.iaload, 1) := by decide +kernel
theorem dX6_findKinds_234 : decode cX6_findKinds 234 = .ok (.iastore, 1) := by decide +kernel
theorem dX6_findKinds_235 : decode cX6_findKinds 235 = .ok (.iinc 2 1, 3) := by decide +kernel
theorem dX6_findKinds_238 : decode cX6_findKinds 238 = .ok (.goto (-23), 3) := by decide +kernel
theorem dX6_findKinds_241 : decode cX6_findKinds 241 = .ok (.goto (-204), 3) := by decide +kernel
theorem dX6_findKinds_244 : decode cX6_findKinds 244 = .ok (.return_, 1) := by decide +kernel
theorem dX6_mixtureOf_0 : decode cX6_mixtureOf 0 = .ok (.aload_n 0, 1) := by decide +kernel
theorem dX6_mixtureOf_1 : decode cX6_mixtureOf 1 = .ok (.getfield 187, 3) := by decide +kernel
theorem dX6_mixtureOf_4 : decode cX6_mixtureOf 4 = .ok (.iload_n 1, 1) := by decide +kernel
theorem dX6_mixtureOf_5 : decode cX6_mixtureOf 5 = .ok (.iaload, 1) := by decide +kernel
theorem dX6_mixtureOf_6 : decode cX6_mixtureOf 6 = .ok (.istore_n 2, 1) := by decide +kernel
theorem dX6_mixtureOf_7 : decode cX6_mixtureOf 7 = .ok (.iconst 0, 1) := by decide +kernel
theorem dX6_mixtureOf_8 : decode cX6_mixtureOf 8 = .ok (.istore_n 3, 1) := by decide +kernel
theorem dX6_mixtureOf_9 : decode cX6_mixtureOf 9 = .ok (.iload_n 3, 1) := by decide +kernel
theorem dX6_mixtureOf_10 : decode cX6_mixtureOf 10 = .ok (.sipush 128, 3) := by decide +kernel
theorem dX6_mixtureOf_13 : decode cX6_mixtureOf 13 = .ok (.if_icmp .ge 31, 3) := by decide +kernel
theorem dX6_mixtureOf_16 : decode cX6_mixtureOf 16 = .ok (.bipush 31, 2) := by decide +kernel
theorem dX6_mixtureOf_18 : decode cX6_mixtureOf 18 = .ok (.iload_n 2, 1) := by decide +kernel
theorem dX6_mixtureOf_19 : decode cX6_mixtureOf 19 = .ok (.imul, 1) := by decide +kernel
theorem dX6_mixtureOf_20 : decode cX6_mixtureOf 20 = .ok (.aload_n 0, 1) := by decide +kernel
theorem dX6_mixtureOf_21 : decode cX6_mixtureOf 21 = .ok (.aload_n 0, 1) := by decide +kernel
theorem dX6_mixtureOf_22 : decode cX6_mixtureOf 22 = .ok (.getfield 181, 3) := by decide +kernel
theorem dX6_mixtureOf_25 : decode cX6_mixtureOf 25 = .ok (.sipush 128, 3) := by decide +kernel
theorem dX6_mixtureOf_28 : decode cX6_mixtureOf 28 = .ok (.iload_n 1, 1) := by decide +kernel
theorem dX6_mixtureOf_29 : decode cX6_mixtureOf 29 = .ok (.imul, 1) := by decide +kernel
theorem dX6_mixtureOf_30 : decode cX6_mixtureOf 30 = .ok (.iload_n 3, 1) := by decide +kernel
theorem dX6_mixtureOf_31 : decode cX6_mixtureOf 31 = .ok (.iadd, 1) := by decide +kernel
theorem dX6_mixtureOf_32 : decode cX6_mixtureOf 32 = .ok (.iaload, 1) := by decide +kernel
theorem dX6_mixtureOf_33 : decode cX6_mixtureOf 33 = .ok (.invokevirtual 190, 3) := by decide +kernel
theorem dX6_mixtureOf_36 : decode cX6_mixtureOf 36 = .ok (.iadd, 1) := by decide +kernel
theorem dX6_mixtureOf_37 : decode cX6_mixtureOf 37 = .ok (.istore_n 2, 1) := by decide +kernel
theorem dX6_mixtureOf_38 : decode cX6_mixtureOf 38 = .ok (.iinc 3 1, 3) := by decide +kernel
theorem dX6_mixtureOf_41 : decode cX6_mixtureOf 41 = .ok (.goto (-32), 3) := by decide +kernel
theorem dX6_mixtureOf_44 : decode cX6_mixtureOf 44 = .ok (.iload_n 2, 1) := by decide +kernel
theorem dX6_mixtureOf_45 : decode cX6_mixtureOf 45 = .ok (.iload_n 2, 1) := by decide +kernel
theorem dX6_mixtureOf_46 : decode cX6_mixtureOf 46 = .ok (.bipush 15, 2) := by decide +kernel
theorem dX6_mixtureOf_48 : decode cX6_mixtureOf 48 = .ok (.iushr, 1) := by decide +kernel
theorem dX6_mixtureOf_49 : decode cX6_mixtureOf 49 = .ok (.ixor, 1) := by decide +kernel
theorem dX6_mixtureOf_50 : decode cX6_mixtureOf 50 = .ok (.sipush 1023, 3) := by decide +kernel
theorem dX6_mixtureOf_53 : decode cX6_mixtureOf 53 = .ok (.iand, 1) := by decide +kernel
theorem dX6_mixtureOf_54 : decode cX6_mixtureOf 54 = .ok (.ireturn, 1) := by decide +kernel
theorem dX6_kindOf_0 : decode cX6_kindOf 0 = .ok (.aload_n 0, 1) := by decide +kernel
theorem dX6_kindOf_1 : decode cX6_kindOf 1 = .ok (.getfield 184, 3) := by decide +kernel
theorem dX6_kindOf_4 : decode cX6_kindOf 4 = .ok (.iload_n 1, 1) := by decide +kernel
theorem dX6_kindOf_5 : decode cX6_kindOf 5 = .ok (.baload, 1) := by decide +kernel
theorem dX6_kindOf_6 : decode cX6_kindOf 6 = .ok (.ifCond .eq 12, 3) := by decide +kernel
theorem dX6_kindOf_9 : decode cX6_kindOf 9 = .ok (.aload_n 0, 1) := by decide +kernel
theorem dX6_kindOf_10 : decode cX6_kindOf 10 = .ok (.getfield 187, 3) := by decide +kernel
theorem dX6_kindOf_13 : decode cX6_kindOf 13 = .ok (.iload_n 1, 1) := by decide +kernel
theorem dX6_kindOf_14 : decode cX6_kindOf 14 = .ok (.iaload, 1) := by decide +kernel
theorem dX6_kindOf_15 : decode cX6_kindOf 15 = .ok (.goto 4, 3) := by decide +kernel
theorem dX6_kindOf_18 : decode cX6_kindOf 18 = .ok (.iconst (-1), 1) := by decide +kernel
theorem dX6_kindOf_19 : decode cX6_kindOf 19 = .ok (.ireturn, 1) := by decide +kernel
theorem dX6_isAlike_0 : decode cX6_isAlike 0 = .ok (.aload_n 0, 1) := by decide +kernel
theorem dX6_isAlike_1 : decode cX6_isAlike 1 = .ok (.getfield 187, 3) := by decide +kernel
theorem dX6_isAlike_4 : decode cX6_isAlike 4 = .ok (.iload_n 1, 1) := by decide +kernel
theorem dX6_isAlike_5 : decode cX6_isAlike 5 = .ok (.iaload, 1) := by decide +kernel
theorem dX6_isAlike_6 : decode cX6_isAlike 6 = .ok (.aload_n 0, 1) := by decide +kernel
theorem dX6_isAlike_7 : decode cX6_isAlike 7 = .ok (.getfield 187, 3) := by decide +kernel
theorem dX6_isAlike_10 : decode cX6_isAlike 10 = .ok (.iload_n 2, 1) := by decide +kernel
theorem dX6_isAlike_11 : decode cX6_isAlike 11 = .ok (.iaload, 1) := by decide +kernel
theorem dX6_isAlike_12 : decode cX6_isAlike 12 = .ok (.if_icmp .eq 5, 3) := by decide +kernel
theorem dX6_isAlike_15 : decode cX6_isAlike 15 = .ok (.iconst 0, 1) := by decide +kernel
theorem dX6_isAlike_16 : decode cX6_isAlike 16 = .ok (.ireturn, 1) := by decide +kernel
theorem dX6_isAlike_17 : decode cX6_isAlike 17 = .ok (.iconst 0, 1) := by decide +kernel
theorem dX6_isAlike_18 : decode cX6_isAlike 18 = .ok (.istore_n 3, 1) := by decide +kernel
theorem dX6_isAlike_19 : decode cX6_isAlike 19 = .ok (.iload_n 3, 1) := by decide +kernel
theorem dX6_isAlike_20 : decode cX6_isAlike 20 = .ok (.sipush 128, 3) := by decide +kernel
theorem dX6_isAlike_23 : decode cX6_isAlike 23 = .ok (.if_icmp .ge 46, 3) := by decide +kernel
theorem dX6_isAlike_26 : decode cX6_isAlike 26 = .ok (.aload_n 0, 1) := by decide +kernel
theorem dX6_isAlike_27 : decode cX6_isAlike 27 = .ok (.aload_n 0, 1) := by decide +kernel
theorem dX6_isAlike_28 : decode cX6_isAlike 28 = .ok (.getfield 181, 3) := by decide +kernel
theorem dX6_isAlike_31 : decode cX6_isAlike 31 = .ok (.sipush 128, 3) := by decide +kernel
theorem dX6_isAlike_34 : decode cX6_isAlike 34 = .ok (.iload_n 1, 1) := by decide +kernel
theorem dX6_isAlike_35 : decode cX6_isAlike 35 = .ok (.imul, 1) := by decide +kernel
theorem dX6_isAlike_36 : decode cX6_isAlike 36 = .ok (.iload_n 3, 1) := by decide +kernel
theorem dX6_isAlike_37 : decode cX6_isAlike 37 = .ok (.iadd, 1) := by decide +kernel
theorem dX6_isAlike_38 : decode cX6_isAlike 38 = .ok (.iaload, 1) := by decide +kernel
theorem dX6_isAlike_39 : decode cX6_isAlike 39 = .ok (.invokevirtual 190, 3) := by decide +kernel
theorem dX6_isAlike_42 : decode cX6_isAlike 42 = .ok (.aload_n 0, 1) := by decide +kernel
theorem dX6_isAlike_43 : decode cX6_isAlike 43 = .ok (.aload_n 0, 1) := by decide +kernel
theorem dX6_isAlike_44 : decode cX6_isAlike 44 = .ok (.getfield 181, 3) := by decide +kernel
theorem dX6_isAlike_47 : decode cX6_isAlike 47 = .ok (.sipush 128, 3) := by decide +kernel
theorem dX6_isAlike_50 : decode cX6_isAlike 50 = .ok (.iload_n 2, 1) := by decide +kernel
theorem dX6_isAlike_51 : decode cX6_isAlike 51 = .ok (.imul, 1) := by decide +kernel
theorem dX6_isAlike_52 : decode cX6_isAlike 52 = .ok (.iload_n 3, 1) := by decide +kernel
theorem dX6_isAlike_53 : decode cX6_isAlike 53 = .ok (.iadd, 1) := by decide +kernel
theorem dX6_isAlike_54 : decode cX6_isAlike 54 = .ok (.iaload, 1) := by decide +kernel
theorem dX6_isAlike_55 : decode cX6_isAlike 55 = .ok (.invokevirtual 190, 3) := by decide +kernel
theorem dX6_isAlike_58 : decode cX6_isAlike 58 = .ok (.if_icmp .eq 5, 3) := by decide +kernel
theorem dX6_isAlike_61 : decode cX6_isAlike 61 = .ok (.iconst 0, 1) := by decide +kernel
theorem dX6_isAlike_62 : decode cX6_isAlike 62 = .ok (.ireturn, 1) := by decide +kernel
theorem dX6_isAlike_63 : decode cX6_isAlike 63 = .ok (.iinc 3 1, 3) := by decide +kernel
theorem dX6_isAlike_66 : decode cX6_isAlike 66 = .ok (.goto (-47), 3) := by decide +kernel
theorem dX6_isAlike_69 : decode cX6_isAlike 69 = .ok (.iconst 1, 1) := by decide +kernel
theorem dX6_isAlike_70 : decode cX6_isAlike 70 = .ok (.ireturn, 1) := by decide +kernel
theorem dX6_feed_0 : decode cX6_feed 0 = .ok (.aload_n 0, 1) := by decide +kernel
theorem dX6_feed_1 : decode cX6_feed 1 = .ok (.iconst 0, 1) := by decide +kernel
theorem dX6_feed_2 : decode cX6_feed 2 = .ok (.putfield 3, 3) := by decide +kernel
theorem dX6_feed_5 : decode cX6_feed 5 = .ok (.aload_n 0, 1) := by decide +kernel
theorem dX6_feed_6 : decode cX6_feed 6 = .ok (.getfield 264, 3) := by decide +kernel
theorem dX6_feed_9 : decode cX6_feed 9 = .ok (.bipush 20, 2) := by decide +kernel
theorem dX6_feed_11 : decode cX6_feed 11 = .ok (.iadd, 1) := by decide +kernel
theorem dX6_feed_12 : decode cX6_feed 12 = .ok (.sipush 2048, 3) := by decide +kernel
theorem dX6_feed_15 : decode cX6_feed 15 = .ok (.if_icmp .le 9, 3) := by decide +kernel
theorem dX6_feed_18 : decode cX6_feed 18 = .ok (.aload_n 0, 1) := by decide +kernel
theorem dX6_feed_19 : decode cX6_feed 19 = .ok (.iconst 1, 1) := by decide +kernel
theorem dX6_feed_20 : decode cX6_feed 20 = .ok (.invokevirtual 267, 3) := by decide +kernel
theorem dX6_feed_23 : decode cX6_feed 23 = .ok (.ireturn, 1) := by decide +kernel
theorem dX6_feed_24 : decode cX6_feed 24 = .ok (.aload_n 0, 1) := by decide +kernel
theorem dX6_feed_25 : decode cX6_feed 25 = .ok (.iload_n 1, 1) := by decide +kernel
theorem dX6_feed_26 : decode cX6_feed 26 = .ok (.invokevirtual 270, 3) := by decide +kernel
theorem dX6_feed_29 : decode cX6_feed 29 = .ok (.aload_n 0, 1) := by decide +kernel
theorem dX6_feed_30 : decode cX6_feed 30 = .ok (.iload_n 2, 1) := by decide +kernel
theorem dX6_feed_31 : decode cX6_feed 31 = .ok (.invokevirtual 270, 3) := by decide +kernel
theorem dX6_feed_34 : decode cX6_feed 34 = .ok (.aload_n 0, 1) := by decide +kernel
theorem dX6_feed_35 : decode cX6_feed 35 = .ok (.iload_n 3, 1) := by decide +kernel
theorem dX6_feed_36 : decode cX6_feed 36 = .ok (.invokevirtual 270, 3) := by decide +kernel
theorem dX6_feed_39 : decode cX6_feed 39 = .ok (.aload_n 0, 1) := by decide +kernel
theorem dX6_feed_40 : decode cX6_feed 40 = .ok (.iload 4, 2) := by decide +kernel
theorem dX6_feed_42 : decode cX6_feed 42 = .ok (.invokevirtual 270, 3) := by decide +kernel
theorem dX6_feed_45 : decode cX6_feed 45 = .ok (.aload_n 0, 1) := by decide +kernel
theorem dX6_feed_46 : decode cX6_feed 46 = .ok (.iload 5, 2) := by decide +kernel
theorem dX6_feed_48 : decode cX6_feed 48 = .ok (.invokevirtual 270, 3) := by decide +kernel
theorem dX6_feed_51 : decode cX6_feed 51 = .ok (.aload_n 0, 1) := by decide +kernel
theorem dX6_feed_52 : decode cX6_feed 52 = .ok (.getfield 264, 3) := by decide +kernel
theorem dX6_feed_55 : decode cX6_feed 55 = .ok (.ireturn, 1) := by decide +kernel
theorem dX6_refuse_0 : decode cX6_refuse 0 = .ok (.aload_n 0, 1) := by decide +kernel
theorem dX6_refuse_1 : decode cX6_refuse 1 = .ok (.iload_n 1, 1) := by decide +kernel
theorem dX6_refuse_2 : decode cX6_refuse 2 = .ok (.putfield 3, 3) := by decide +kernel
theorem dX6_refuse_5 : decode cX6_refuse 5 = .ok (.iconst 0, 1) := by decide +kernel
theorem dX6_refuse_6 : decode cX6_refuse 6 = .ok (.ireturn, 1) := by decide +kernel
theorem dX6_four_0 : decode cX6_four 0 = .ok (.bipush 24, 2) := by decide +kernel
theorem dX6_four_2 : decode cX6_four 2 = .ok (.istore_n 2, 1) := by decide +kernel
theorem dX6_four_3 : decode cX6_four 3 = .ok (.iload_n 2, 1) := by decide +kernel
theorem dX6_four_4 : decode cX6_four 4 = .ok (.ifCond .lt 32, 3) := by decide +kernel
theorem dX6_four_7 : decode cX6_four 7 = .ok (.aload_n 0, 1) := by decide +kernel
theorem dX6_four_8 : decode cX6_four 8 = .ok (.getfield 30, 3) := by decide +kernel
theorem dX6_four_11 : decode cX6_four 11 = .ok (.aload_n 0, 1) := by decide +kernel
theorem dX6_four_12 : decode cX6_four 12 = .ok (.getfield 264, 3) := by decide +kernel
theorem dX6_four_15 : decode cX6_four 15 = .ok (.iload_n 1, 1) := by decide +kernel
theorem dX6_four_16 : decode cX6_four 16 = .ok (.iload_n 2, 1) := by decide +kernel
theorem dX6_four_17 : decode cX6_four 17 = .ok (.ishr, 1) := by decide +kernel
theorem dX6_four_18 : decode cX6_four 18 = .ok (.i2b, 1) := by decide +kernel
theorem dX6_four_19 : decode cX6_four 19 = .ok (.bastore, 1) := by decide +kernel
theorem dX6_four_20 : decode cX6_four 20 = .ok (.aload_n 0, 1) := by decide +kernel
theorem dX6_four_21 : decode cX6_four 21 = .ok (.dup, 1) := by decide +kernel
theorem dX6_four_22 : decode cX6_four 22 = .ok (.getfield 264, 3) := by decide +kernel
theorem dX6_four_25 : decode cX6_four 25 = .ok (.iconst 1, 1) := by decide +kernel
theorem dX6_four_26 : decode cX6_four 26 = .ok (.iadd, 1) := by decide +kernel
theorem dX6_four_27 : decode cX6_four 27 = .ok (.putfield 264, 3) := by decide +kernel
theorem dX6_four_30 : decode cX6_four 30 = .ok (.iinc 2 (-8), 3) := by decide +kernel
theorem dX6_four_33 : decode cX6_four 33 = .ok (.goto (-30), 3) := by decide +kernel
theorem dX6_four_36 : decode cX6_four 36 = .ok (.return_, 1) := by decide +kernel
theorem dX6_end_0 : decode cX6_end 0 = .ok (.aload_n 0, 1) := by decide +kernel
theorem dX6_end_1 : decode cX6_end 1 = .ok (.iconst 0, 1) := by decide +kernel
theorem dX6_end_2 : decode cX6_end 2 = .ok (.putfield 3, 3) := by decide +kernel
theorem dX6_end_5 : decode cX6_end 5 = .ok (.iload_n 1, 1) := by decide +kernel
theorem dX6_end_6 : decode cX6_end 6 = .ok (.ifCond .lt 11, 3) := by decide +kernel
theorem dX6_end_9 : decode cX6_end 9 = .ok (.iload_n 1, 1) := by decide +kernel
theorem dX6_end_10 : decode cX6_end 10 = .ok (.aload_n 0, 1) := by decide +kernel
theorem dX6_end_11 : decode cX6_end 11 = .ok (.getfield 264, 3) := by decide +kernel
theorem dX6_end_14 : decode cX6_end 14 = .ok (.if_icmp .le 9, 3) := by decide +kernel
theorem dX6_end_17 : decode cX6_end 17 = .ok (.aload_n 0, 1) := by decide +kernel
theorem dX6_end_18 : decode cX6_end 18 = .ok (.iconst 1, 1) := by decide +kernel
theorem dX6_end_19 : decode cX6_end 19 = .ok (.invokevirtual 267, 3) := by decide +kernel
theorem dX6_end_22 : decode cX6_end 22 = .ok (.ireturn, 1) := by decide +kernel
theorem dX6_end_23 : decode cX6_end 23 = .ok (.aload_n 0, 1) := by decide +kernel
theorem dX6_end_24 : decode cX6_end 24 = .ok (.iload_n 1, 1) := by decide +kernel
theorem dX6_end_25 : decode cX6_end 25 = .ok (.putfield 264, 3) := by decide +kernel
theorem dX6_end_28 : decode cX6_end 28 = .ok (.iload_n 1, 1) := by decide +kernel
theorem dX6_end_29 : decode cX6_end 29 = .ok (.ireturn, 1) := by decide +kernel
theorem dX6_set_0 : decode cX6_set 0 = .ok (.aload_n 0, 1) := by decide +kernel
theorem dX6_set_1 : decode cX6_set 1 = .ok (.invokevirtual 273, 3) := by decide +kernel
theorem dX6_set_4 : decode cX6_set 4 = .ok (.istore_n 2, 1) := by decide +kernel
theorem dX6_set_5 : decode cX6_set 5 = .ok (.iload_n 1, 1) := by decide +kernel
theorem dX6_set_6 : decode cX6_set 6 = .ok (.ifCond .eq 14, 3) := by decide +kernel
theorem dX6_set_9 : decode cX6_set 9 = .ok (.iload_n 1, 1) := by decide +kernel
theorem dX6_set_10 : decode cX6_set 10 = .ok (.iconst 1, 1) := by decide +kernel
theorem dX6_set_11 : decode cX6_set 11 = .ok (.if_icmp .eq 9, 3) := by decide +kernel
theorem dX6_set_14 : decode cX6_set 14 = .ok (.aload_n 0, 1) := by decide +kernel
theorem dX6_set_15 : decode cX6_set 15 = .ok (.iconst 1, 1) := by decide +kernel
theorem dX6_set_16 : decode cX6_set 16 = .ok (.invokevirtual 267, 3) := by decide +kernel
theorem dX6_set_19 : decode cX6_set 19 = .ok (.ireturn, 1) := by decide +kernel
theorem dX6_set_20 : decode cX6_set 20 = .ok (.aload_n 0, 1) := by decide +kernel
theorem dX6_set_21 : decode cX6_set 21 = .ok (.iconst (-1), 1) := by decide +kernel
theorem dX6_set_22 : decode cX6_set 22 = .ok (.putfield 214, 3) := by decide +kernel
theorem dX6_set_25 : decode cX6_set 25 = .ok (.aload_n 0, 1) := by decide +kernel
theorem dX6_set_26 : decode cX6_set 26 = .ok (.iload_n 1, 1) := by decide +kernel
theorem dX6_set_27 : decode cX6_set 27 = .ok (.iload_n 2, 1) := by decide +kernel
theorem dX6_set_28 : decode cX6_set 28 = .ok (.invokevirtual 247, 3) := by decide +kernel
theorem dX6_set_31 : decode cX6_set 31 = .ok (.istore_n 3, 1) := by decide +kernel
theorem dX6_set_32 : decode cX6_set 32 = .ok (.iload_n 3, 1) := by decide +kernel
theorem dX6_set_33 : decode cX6_set 33 = .ok (.iconst (-1), 1) := by decide +kernel
theorem dX6_set_34 : decode cX6_set 34 = .ok (.if_icmp .ne 9, 3) := by decide +kernel
theorem dX6_set_37 : decode cX6_set 37 = .ok (.aload_n 0, 1) := by decide +kernel
theorem dX6_set_38 : decode cX6_set 38 = .ok (.iconst 3, 1) := by decide +kernel
theorem dX6_set_39 : decode cX6_set 39 = .ok (.invokevirtual 267, 3) := by decide +kernel
theorem dX6_set_42 : decode cX6_set 42 = .ok (.ireturn, 1) := by decide +kernel
theorem dX6_set_43 : decode cX6_set 43 = .ok (.iload_n 3, 1) := by decide +kernel
theorem dX6_set_44 : decode cX6_set 44 = .ok (.iconst (-1), 1) := by decide +kernel
theorem dX6_set_45 : decode cX6_set 45 = .ok (.if_icmp .ge 17, 3) := by decide +kernel
theorem dX6_set_48 : decode cX6_set 48 = .ok (.aload_n 0, 1) := by decide +kernel
theorem dX6_set_49 : decode cX6_set 49 = .ok (.bipush (-2), 2) := by decide +kernel
theorem dX6_set_51 : decode cX6_set 51 = .ok (.iload_n 3, 1) := by decide +kernel
theorem dX6_set_52 : decode cX6_set 52 = .ok (.isub, 1) := by decide +kernel
theorem dX6_set_53 : decode cX6_set 53 = .ok (.putfield 214, 3) := by decide +kernel
theorem dX6_set_56 : decode cX6_set 56 = .ok (.aload_n 0, 1) := by decide +kernel
theorem dX6_set_57 : decode cX6_set 57 = .ok (.iconst 2, 1) := by decide +kernel
theorem dX6_set_58 : decode cX6_set 58 = .ok (.invokevirtual 267, 3) := by decide +kernel
theorem dX6_set_61 : decode cX6_set 61 = .ok (.ireturn, 1) := by decide +kernel
theorem dX6_set_62 : decode cX6_set 62 = .ok (.iload_n 3, 1) := by decide +kernel
theorem dX6_set_63 : decode cX6_set 63 = .ok (.ireturn, 1) := by decide +kernel
theorem dX6_take_0 : decode cX6_take 0 = .ok (.aload_n 0, 1) := by decide +kernel
theorem dX6_take_1 : decode cX6_take 1 = .ok (.iconst 0, 1) := by decide +kernel
theorem dX6_take_2 : decode cX6_take 2 = .ok (.putfield 3, 3) := by decide +kernel
theorem dX6_take_5 : decode cX6_take 5 = .ok (.aload_n 0, 1) := by decide +kernel
theorem dX6_take_6 : decode cX6_take 6 = .ok (.getfield 264, 3) := by decide +kernel
theorem dX6_take_9 : decode cX6_take 9 = .ok (.istore_n 1, 1) := by decide +kernel
theorem dX6_take_10 : decode cX6_take 10 = .ok (.aload_n 0, 1) := by decide +kernel
theorem dX6_take_11 : decode cX6_take 11 = .ok (.iconst 0, 1) := by decide +kernel
theorem dX6_take_12 : decode cX6_take 12 = .ok (.putfield 264, 3) := by decide +kernel
theorem dX6_take_15 : decode cX6_take 15 = .ok (.iload_n 1, 1) := by decide +kernel
theorem dX6_take_16 : decode cX6_take 16 = .ok (.ireturn, 1) := by decide +kernel
theorem dX6_empty_0 : decode cX6_empty 0 = .ok (.iload_n 1, 1) := by decide +kernel
theorem dX6_empty_1 : decode cX6_empty 1 = .ok (.ifCond .eq 8, 3) := by decide +kernel
theorem dX6_empty_4 : decode cX6_empty 4 = .ok (.iload_n 1, 1) := by decide +kernel
theorem dX6_empty_5 : decode cX6_empty 5 = .ok (.iconst 1, 1) := by decide +kernel
theorem dX6_empty_6 : decode cX6_empty 6 = .ok (.if_icmp .ne 7, 3) := by decide +kernel
theorem dX6_empty_9 : decode cX6_empty 9 = .ok (.iconst 1, 1) := by decide +kernel
theorem dX6_empty_10 : decode cX6_empty 10 = .ok (.goto 4, 3) := by decide +kernel
theorem dX6_empty_13 : decode cX6_empty 13 = .ok (.iconst 0, 1) := by decide +kernel
theorem dX6_empty_14 : decode cX6_empty 14 = .ok (.istore_n 2, 1) := by decide +kernel
theorem dX6_empty_15 : decode cX6_empty 15 = .ok (.aload_n 0, 1) := by decide +kernel
theorem dX6_empty_16 : decode cX6_empty 16 = .ok (.iload_n 2, 1) := by decide +kernel
theorem dX6_empty_17 : decode cX6_empty 17 = .ok (.ifCond .eq 7, 3) := by decide +kernel
theorem dX6_empty_20 : decode cX6_empty 20 = .ok (.iconst 0, 1) := by decide +kernel
theorem dX6_empty_21 : decode cX6_empty 21 = .ok (.goto 4, 3) := by decide +kernel
theorem dX6_empty_24 : decode cX6_empty 24 = .ok (.iconst 1, 1) := by decide +kernel
theorem dX6_empty_25 : decode cX6_empty 25 = .ok (.putfield 3, 3) := by decide +kernel
theorem dX6_empty_28 : decode cX6_empty 28 = .ok (.iload_n 2, 1) := by decide +kernel
theorem dX6_empty_29 : decode cX6_empty 29 = .ok (.ifCond .eq 20, 3) := by decide +kernel
theorem dX6_empty_32 : decode cX6_empty 32 = .ok (.aload_n 0, 1) := by decide +kernel
theorem dX6_empty_33 : decode cX6_empty 33 = .ok (.getfield 225, 3) := by decide +kernel
theorem dX6_empty_36 : decode cX6_empty 36 = .ok (.sipush 402, 3) := by decide +kernel
theorem dX6_empty_39 : decode cX6_empty 39 = .ok (.iload_n 1, 1) := by decide +kernel
theorem dX6_empty_40 : decode cX6_empty 40 = .ok (.imul, 1) := by decide +kernel
theorem dX6_empty_41 : decode cX6_empty 41 = .ok (.baload, 1) := by decide +kernel
theorem dX6_empty_42 : decode cX6_empty 42 = .ok (.ifCond .eq 7, 3) := by decide +kernel
theorem dX6_empty_45 : decode cX6_empty 45 = .ok (.iconst 1, 1) := by decide +kernel
theorem dX6_empty_46 : decode cX6_empty 46 = .ok (.goto 4, 3) := by decide +kernel
theorem dX6_empty_49 : decode cX6_empty 49 = .ok (.iconst 0, 1) := by decide +kernel
theorem dX6_empty_50 : decode cX6_empty 50 = .ok (.ireturn, 1) := by decide +kernel
theorem dX6_fits_0 : decode cX6_fits 0 = .ok (.aload_n 0, 1) := by decide +kernel
theorem dX6_fits_1 : decode cX6_fits 1 = .ok (.invokevirtual 273, 3) := by decide +kernel
theorem dX6_fits_4 : decode cX6_fits 4 = .ok (.istore_n 2, 1) := by decide +kernel
theorem dX6_fits_5 : decode cX6_fits 5 = .ok (.iload_n 1, 1) := by decide +kernel
theorem dX6_fits_6 : decode cX6_fits 6 = .ok (.ifCond .eq 15, 3) := by decide +kernel
theorem dX6_fits_9 : decode cX6_fits 9 = .ok (.iload_n 1, 1) := by decide +kernel
theorem dX6_fits_10 : decode cX6_fits 10 = .ok (.iconst 1, 1) := by decide +kernel
theorem dX6_fits_11 : decode cX6_fits 11 = .ok (.if_icmp .eq 10, 3) := by decide +kernel
theorem dX6_fits_14 : decode cX6_fits 14 = .ok (.aload_n 0, 1) := by decide +kernel
theorem dX6_fits_15 : decode cX6_fits 15 = .ok (.iconst 1, 1) := by decide +kernel
theorem dX6_fits_16 : decode cX6_fits 16 = .ok (.putfield 3, 3) := by decide +kernel
theorem dX6_fits_19 : decode cX6_fits 19 = .ok (.iconst 0, 1) := by decide +kernel
theorem dX6_fits_20 : decode cX6_fits 20 = .ok (.ireturn, 1) := by decide +kernel
theorem dX6_fits_21 : decode cX6_fits 21 = .ok (.iconst 0, 1) := by decide +kernel
theorem dX6_fits_22 : decode cX6_fits 22 = .ok (.istore_n 3, 1) := by decide +kernel
theorem dX6_fits_23 : decode cX6_fits 23 = .ok (.iconst 0, 1) := by decide +kernel
theorem dX6_fits_24 : decode cX6_fits 24 = .ok (.istore 4, 2) := by decide +kernel
theorem dX6_fits_26 : decode cX6_fits 26 = .ok (.iload 4, 2) := by decide +kernel
theorem dX6_fits_28 : decode cX6_fits 28 = .ok (.iload_n 2, 1) := by decide +kernel
theorem dX6_fits_29 : decode cX6_fits 29 = .ok (.if_icmp .ge 46, 3) := by decide +kernel
theorem dX6_fits_32 : decode cX6_fits 32 = .ok (.aload_n 0, 1) := by decide +kernel
theorem dX6_fits_33 : decode cX6_fits 33 = .ok (.getfield 30, 3) := by decide +kernel
theorem dX6_fits_36 : decode cX6_fits 36 = .ok (.iload 4, 2) := by decide +kernel
theorem dX6_fits_38 : decode cX6_fits 38 = .ok (.baload, 1) := by decide +kernel
theorem dX6_fits_39 : decode cX6_fits 39 = .ok (.ifCond .ge 5, 3) := by decide +kernel
theorem dX6_fits_42 : decode cX6_fits 42 = .ok (.iconst 0, 1) := by decide +kernel
theorem dX6_fits_43 : decode cX6_fits 43 = .ok (.ireturn, 1) := by decide +kernel
theorem dX6_fits_44 : decode cX6_fits 44 = .ok (.aload_n 0, 1) := by decide +kernel
theorem dX6_fits_45 : decode cX6_fits 45 = .ok (.getfield 219, 3) := by decide +kernel
theorem dX6_fits_48 : decode cX6_fits 48 = .ok (.sipush 128, 3) := by decide +kernel
theorem dX6_fits_51 : decode cX6_fits 51 = .ok (.sipush 402, 3) := by decide +kernel
theorem dX6_fits_54 : decode cX6_fits 54 = .ok (.iload_n 1, 1) := by decide +kernel
theorem dX6_fits_55 : decode cX6_fits 55 = .ok (.imul, 1) := by decide +kernel
theorem dX6_fits_56 : decode cX6_fits 56 = .ok (.iload_n 3, 1) := by decide +kernel
theorem dX6_fits_57 : decode cX6_fits 57 = .ok (.iadd, 1) := by decide +kernel
theorem dX6_fits_58 : decode cX6_fits 58 = .ok (.imul, 1) := by decide +kernel
theorem dX6_fits_59 : decode cX6_fits 59 = .ok (.aload_n 0, 1) := by decide +kernel
theorem dX6_fits_60 : decode cX6_fits 60 = .ok (.getfield 30, 3) := by decide +kernel
theorem dX6_fits_63 : decode cX6_fits 63 = .ok (.iload 4, 2) := by decide +kernel
theorem dX6_fits_65 : decode cX6_fits 65 = .ok (.baload, 1) := by decide +kernel
theorem dX6_fits_66 : decode cX6_fits 66 = .ok (.iadd, 1) := by decide +kernel
theorem dX6_fits_67 : decode cX6_fits 67 = .ok (.iaload, 1) := by decide +kernel
theorem dX6_fits_68 : decode cX6_fits 68 = .ok (.istore_n 3, 1) := by decide +kernel
theorem dX6_fits_69 : decode cX6_fits 69 = .ok (.iinc 4 1, 3) := by decide +kernel
theorem dX6_fits_72 : decode cX6_fits 72 = .ok (.goto (-46), 3) := by decide +kernel
theorem dX6_fits_75 : decode cX6_fits 75 = .ok (.aload_n 0, 1) := by decide +kernel
theorem dX6_fits_76 : decode cX6_fits 76 = .ok (.getfield 225, 3) := by decide +kernel
theorem dX6_fits_79 : decode cX6_fits 79 = .ok (.sipush 402, 3) := by decide +kernel
theorem dX6_fits_82 : decode cX6_fits 82 = .ok (.iload_n 1, 1) := by decide +kernel
theorem dX6_fits_83 : decode cX6_fits 83 = .ok (.imul, 1) := by decide +kernel
theorem dX6_fits_84 : decode cX6_fits 84 = .ok (.iload_n 3, 1) := by decide +kernel
theorem dX6_fits_85 : decode cX6_fits 85 = .ok (.iadd, 1) := by decide +kernel
theorem dX6_fits_86 : decode cX6_fits 86 = .ok (.baload, 1) := by decide +kernel
theorem dX6_fits_87 : decode cX6_fits 87 = .ok (.ireturn, 1) := by decide +kernel
theorem dX6_first_0 : decode cX6_first 0 = .ok (.aload_n 0, 1) := by decide +kernel
theorem dX6_first_1 : decode cX6_first 1 = .ok (.iconst 0, 1) := by decide +kernel
theorem dX6_first_2 : decode cX6_first 2 = .ok (.putfield 3, 3) := by decide +kernel
theorem dX6_first_5 : decode cX6_first 5 = .ok (.iload_n 1, 1) := by decide +kernel
theorem dX6_first_6 : decode cX6_first 6 = .ok (.ifCond .lt 8, 3) := by decide +kernel
theorem dX6_first_9 : decode cX6_first 9 = .ok (.iload_n 1, 1) := by decide +kernel
theorem dX6_first_10 : decode cX6_first 10 = .ok (.iconst 4, 1) := by decide +kernel
theorem dX6_first_11 : decode cX6_first 11 = .ok (.if_icmp .le 9, 3) := by decide +kernel
theorem dX6_first_14 : decode cX6_first 14 = .ok (.aload_n 0, 1) := by decide +kernel
theorem dX6_first_15 : decode cX6_first 15 = .ok (.iconst 1, 1) := by decide +kernel
theorem dX6_first_16 : decode cX6_first 16 = .ok (.invokevirtual 267, 3) := by decide +kernel
theorem dX6_first_19 : decode cX6_first 19 = .ok (.ireturn, 1) := by decide +kernel
theorem dX6_first_20 : decode cX6_first 20 = .ok (.aload_n 0, 1) := by decide +kernel
theorem dX6_first_21 : decode cX6_first 21 = .ok (.iconst 0, 1) := by decide +kernel
theorem dX6_first_22 : decode cX6_first 22 = .ok (.putfield 276, 3) := by decide +kernel
theorem dX6_first_25 : decode cX6_first 25 = .ok (.iconst 0, 1) := by decide +kernel
theorem dX6_first_26 : decode cX6_first 26 = .ok (.istore_n 2, 1) := by decide +kernel
theorem dX6_first_27 : decode cX6_first 27 = .ok (.iload_n 2, 1) := by decide +kernel
theorem dX6_first_28 : decode cX6_first 28 = .ok (.aload_n 0, 1) := by decide +kernel
theorem dX6_first_29 : decode cX6_first 29 = .ok (.getfield 235, 3) := by decide +kernel
theorem dX6_first_32 : decode cX6_first 32 = .ok (.arraylength, 1) := by decide +kernel
theorem dX6_first_33 : decode cX6_first 33 = .ok (.if_icmp .ge 16, 3) := by decide +kernel
theorem dX6_first_36 : decode cX6_first 36 = .ok (.aload_n 0, 1) := by decide +kernel
theorem dX6_first_37 : decode cX6_first 37 = .ok (.getfield 235, 3) := by decide +kernel
theorem dX6_first_40 : decode cX6_first 40 = .ok (.iload_n 2, 1) := by decide +kernel
theorem dX6_first_41 : decode cX6_first 41 = .ok (.iconst (-1), 1) := by decide +kernel
theorem dX6_first_42 : decode cX6_first 42 = .ok (.iastore, 1) := by decide +kernel
theorem dX6_first_43 : decode cX6_first 43 = .ok (.iinc 2 1, 3) := by decide +kernel
theorem dX6_first_46 : decode cX6_first 46 = .ok (.goto (-19), 3) := by decide +kernel
theorem dX6_first_49 : decode cX6_first 49 = .ok (.aload_n 0, 1) := by decide +kernel
theorem dX6_first_50 : decode cX6_first 50 = .ok (.getfield 232, 3) := by decide +kernel
theorem dX6_first_53 : decode cX6_first 53 = .ok (.iconst 0, 1) := by decide +kernel
theorem dX6_first_54 : decode cX6_first 54 = .ok (.iconst 0, 1) := by decide +kernel
theorem dX6_first_55 : decode cX6_first 55 = .ok (.iastore, 1) := by decide +kernel
theorem dX6_first_56 : decode cX6_first 56 = .ok (.aload_n 0, 1) := by decide +kernel
theorem dX6_first_57 : decode cX6_first 57 = .ok (.getfield 235, 3) := by decide +kernel
theorem dX6_first_60 : decode cX6_first 60 = .ok (.iconst 0, 1) := by decide +kernel
theorem dX6_first_61 : decode cX6_first 61 = .ok (.iconst 0, 1) := by decide +kernel
theorem dX6_first_62 : decode cX6_first 62 = .ok (.iastore, 1) := by decide +kernel
theorem dX6_first_63 : decode cX6_first 63 = .ok (.iconst 1, 1) := by decide +kernel
theorem dX6_first_64 : decode cX6_first 64 = .ok (.istore_n 2, 1) := by decide +kernel
theorem dX6_first_65 : decode cX6_first 65 = .ok (.iconst 0, 1) := by decide +kernel
theorem dX6_first_66 : decode cX6_first 66 = .ok (.istore_n 3, 1) := by decide +kernel
theorem dX6_first_67 : decode cX6_first 67 = .ok (.iload_n 3, 1) := by decide +kernel
theorem dX6_first_68 : decode cX6_first 68 = .ok (.iload_n 2, 1) := by decide +kernel
theorem dX6_first_69 : decode cX6_first 69 = .ok (.if_icmp .ge 142, 3) := by decide +kernel
theorem dX6_first_72 : decode cX6_first 72 = .ok (.aload_n 0, 1) := by decide +kernel
theorem dX6_first_73 : decode cX6_first 73 = .ok (.getfield 232, 3) := by decide +kernel
theorem dX6_first_76 : decode cX6_first 76 = .ok (.iload_n 3, 1) := by decide +kernel
theorem dX6_first_77 : decode cX6_first 77 = .ok (.iaload, 1) := by decide +kernel
theorem dX6_first_78 : decode cX6_first 78 = .ok (.istore 4, 2) := by decide +kernel
theorem dX6_first_80 : decode cX6_first 80 = .ok (.aload_n 0, 1) := by decide +kernel
theorem dX6_first_81 : decode cX6_first 81 = .ok (.iload_n 1, 1) := by decide +kernel
theorem dX6_first_82 : decode cX6_first 82 = .ok (.iload 4, 2) := by decide +kernel
theorem dX6_first_84 : decode cX6_first 84 = .ok (.invokevirtual 279, 3) := by decide +kernel
theorem dX6_first_87 : decode cX6_first 87 = .ok (.ifCond .eq 10, 3) := by decide +kernel
theorem dX6_first_90 : decode cX6_first 90 = .ok (.aload_n 0, 1) := by decide +kernel
theorem dX6_first_91 : decode cX6_first 91 = .ok (.iload 4, 2) := by decide +kernel
theorem dX6_first_93 : decode cX6_first 93 = .ok (.invokevirtual 282, 3) := by decide +kernel
theorem dX6_first_96 : decode cX6_first 96 = .ok (.ireturn, 1) := by decide +kernel
theorem dX6_first_97 : decode cX6_first 97 = .ok (.iconst 0, 1) := by decide +kernel
theorem dX6_first_98 : decode cX6_first 98 = .ok (.istore 5, 2) := by decide +kernel
theorem dX6_first_100 : decode cX6_first 100 = .ok (.iload 5, 2) := by decide +kernel
theorem dX6_first_102 : decode cX6_first 102 = .ok (.sipush 128, 3) := by decide +kernel
theorem dX6_first_105 : decode cX6_first 105 = .ok (.if_icmp .ge 100, 3) := by decide +kernel
theorem dX6_first_108 : decode cX6_first 108 = .ok (.sipush 402, 3) := by decide +kernel
theorem dX6_first_111 : decode cX6_first 111 = .ok (.aload_n 0, 1) := by decide +kernel
theorem dX6_first_112 : decode cX6_first 112 = .ok (.getfield 219, 3) := by decide +kernel
theorem dX6_first_115 : decode cX6_first 115 = .ok (.sipush 128, 3) := by decide +kernel
theorem dX6_first_118 : decode cX6_first 118 = .ok (.iload 4, 2) := by decide +kernel
theorem dX6_first_120 : decode cX6_first 120 = .ok (.sipush 402, 3) := by decide +kernel
theorem dX6_first_123 : decode cX6_first 123 = .ok (.idiv, 1) := by decide +kernel
theorem dX6_first_124 : decode cX6_first 124 = .ok (.imul, 1) := by decide +kernel
theorem dX6_first_125 : decode cX6_first 125 = .ok (.iload 5, 2) := by decide +kernel
theorem dX6_first_127 : decode cX6_first 127 = .ok (.iadd, 1) := by decide +kernel
theorem dX6_first_128 : decode cX6_first 128 = .ok (.iaload, 1) := by decide +kernel
theorem dX6_first_129 : decode cX6_first 129 = .ok (.imul, 1) := by decide +kernel
theorem dX6_first_130 : decode cX6_first 130 = .ok (.aload_n 0, 1) := by decide +kernel
theorem dX6_first_131 : decode cX6_first 131 = .ok (.getfield 219, 3) := by decide +kernel
theorem dX6_first_134 : decode cX6_first 134 = .ok (.sipush 128, 3) := by decide +kernel
theorem dX6_first_137 : decode cX6_first 137 = .ok (.sipush 402, 3) := by decide +kernel
theorem dX6_first_140 : decode cX6_first 140 = .ok (.iload 4, 2) := by decide +kernel
theorem dX6_first_142 : decode cX6_first 142 = .ok (.sipush 402, 3) := by decide +kernel
theorem dX6_first_145 : decode cX6_first 145 = .ok (.irem, 1) := by decide +kernel
theorem dX6_first_146 : decode cX6_first 146 = .ok (.iadd, 1) := by decide +kernel
theorem dX6_first_147 : decode cX6_first 147 = .ok (.imul, 1) := by decide +kernel
theorem dX6_first_148 : decode cX6_first 148 = .ok (.iload 5, 2) := by decide +kernel
theorem dX6_first_150 : decode cX6_first 150 = .ok (.iadd, 1) := by decide +kernel
theorem dX6_first_151 : decode cX6_first 151 = .ok (.iaload, 1) := by decide +kernel
theorem dX6_first_152 : decode cX6_first 152 = .ok (.iadd, 1) := by decide +kernel
theorem dX6_first_153 : decode cX6_first 153 = .ok (.istore 6, 2) := by decide +kernel
theorem dX6_first_155 : decode cX6_first 155 = .ok (.aload_n 0, 1) := by decide +kernel
theorem dX6_first_156 : decode cX6_first 156 = .ok (.getfield 235, 3) := by decide +kernel
theorem dX6_first_159 : decode cX6_first 159 = .ok (.iload 6, 2) := by decide +kernel
theorem dX6_first_161 : decode cX6_first 161 = .ok (.iaload, 1) := by decide +kernel
theorem dX6_first_162 : decode cX6_first 162 = .ok (.iconst (-1), 1) := by decide +kernel
theorem dX6_first_163 : decode cX6_first 163 = .ok (.if_icmp .eq 6, 3) := by decide +kernel
theorem dX6_first_166 : decode cX6_first 166 = .ok (.goto 33, 3) := by decide +kernel
theorem dX6_first_169 : decode cX6_first 169 = .ok (.aload_n 0, 1) := by decide +kernel
theorem dX6_first_170 : decode cX6_first 170 = .ok (.getfield 235, 3) := by decide +kernel
theorem dX6_first_173 : decode cX6_first 173 = .ok (.iload 6, 2) := by decide +kernel
theorem dX6_first_175 : decode cX6_first 175 = .ok (.iload 4, 2) := by decide +kernel
theorem dX6_first_177 : decode cX6_first 177 = .ok (.iastore, 1) := by decide +kernel
theorem dX6_first_178 : decode cX6_first 178 = .ok (.aload_n 0, 1) := by decide +kernel
theorem dX6_first_179 : decode cX6_first 179 = .ok (.getfield 238, 3) := by decide +kernel
theorem dX6_first_182 : decode cX6_first 182 = .ok (.iload 6, 2) := by decide +kernel
theorem dX6_first_184 : decode cX6_first 184 = .ok (.iload 5, 2) := by decide +kernel
theorem dX6_first_186 : decode cX6_first 186 = .ok (.i2b, 1) := by decide +kernel
theorem dX6_first_187 : decode cX6_first 187 = .ok (.bastore, 1) := by decide +kernel
theorem dX6_first_188 : decode cX6_first 188 = .ok (.aload_n 0, 1) := by decide +kernel
theorem dX6_first_189 : decode cX6_first 189 = .ok (.getfield 232, 3) := by decide +kernel
theorem dX6_first_192 : decode cX6_first 192 = .ok (.iload_n 2, 1) := by decide +kernel
theorem dX6_first_193 : decode cX6_first 193 = .ok (.iload 6, 2) := by decide +kernel
theorem dX6_first_195 : decode cX6_first 195 = .ok (.iastore, 1) := by decide +kernel
theorem dX6_first_196 : decode cX6_first 196 = .ok (.iinc 2 1, 3) := by decide +kernel
theorem dX6_first_199 : decode cX6_first 199 = .ok (.iinc 5 1, 3) := by decide +kernel
theorem dX6_first_202 : decode cX6_first 202 = .ok (.goto (-102), 3) := by decide +kernel
theorem dX6_first_205 : decode cX6_first 205 = .ok (.iinc 3 1, 3) := by decide +kernel
theorem dX6_first_208 : decode cX6_first 208 = .ok (.goto (-141), 3) := by decide +kernel
theorem dX6_first_211 : decode cX6_first 211 = .ok (.iconst (-1), 1) := by decide +kernel
theorem dX6_first_212 : decode cX6_first 212 = .ok (.ireturn, 1) := by decide +kernel
theorem dX6_is_0 : decode cX6_is 0 = .ok (.aload_n 0, 1) := by decide +kernel
theorem dX6_is_1 : decode cX6_is 1 = .ok (.getfield 225, 3) := by decide +kernel
theorem dX6_is_4 : decode cX6_is 4 = .ok (.iload_n 2, 1) := by decide +kernel
theorem dX6_is_5 : decode cX6_is 5 = .ok (.sipush 402, 3) := by decide +kernel
theorem dX6_is_8 : decode cX6_is 8 = .ok (.idiv, 1) := by decide +kernel
theorem dX6_is_9 : decode cX6_is 9 = .ok (.baload, 1) := by decide +kernel
theorem dX6_is_10 : decode cX6_is 10 = .ok (.istore_n 3, 1) := by decide +kernel
theorem dX6_is_11 : decode cX6_is 11 = .ok (.aload_n 0, 1) := by decide +kernel
theorem dX6_is_12 : decode cX6_is 12 = .ok (.getfield 225, 3) := by decide +kernel
theorem dX6_is_15 : decode cX6_is 15 = .ok (.sipush 402, 3) := by decide +kernel
theorem dX6_is_18 : decode cX6_is 18 = .ok (.iload_n 2, 1) := by decide +kernel
theorem dX6_is_19 : decode cX6_is 19 = .ok (.sipush 402, 3) := by decide +kernel
theorem dX6_is_22 : decode cX6_is 22 = .ok (.irem, 1) := by decide +kernel
theorem dX6_is_23 : decode cX6_is 23 = .ok (.iadd, 1) := by decide +kernel
theorem dX6_is_24 : decode cX6_is 24 = .ok (.baload, 1) := by decide +kernel
theorem dX6_is_25 : decode cX6_is 25 = .ok (.istore 4, 2) := by decide +kernel
theorem dX6_is_27 : decode cX6_is 27 = .ok (.iload_n 1, 1) := by decide +kernel
theorem dX6_is_28 : decode cX6_is 28 = .ok (.ifCond .ne 17, 3) := by decide +kernel
theorem dX6_is_31 : decode cX6_is 31 = .ok (.iload_n 3, 1) := by decide +kernel
theorem dX6_is_32 : decode cX6_is 32 = .ok (.iload 4, 2) := by decide +kernel
theorem dX6_is_34 : decode cX6_is 34 = .ok (.if_icmp .eq 7, 3) := by decide +kernel
theorem dX6_is_37 : decode cX6_is 37 = .ok (.iconst 1, 1) := by decide +kernel
theorem dX6_is_38 : decode cX6_is 38 = .ok (.goto 87, 3) := by decide +kernel
theorem dX6_is_41 : decode cX6_is 41 = .ok (.iconst 0, 1) := by decide +kernel
theorem dX6_is_42 : decode cX6_is 42 = .ok (.goto 83, 3) := by decide +kernel
theorem dX6_is_45 : decode cX6_is 45 = .ok (.iload_n 1, 1) := by decide +kernel
theorem dX6_is_46 : decode cX6_is 46 = .ok (.iconst 1, 1) := by decide +kernel
theorem dX6_is_47 : decode cX6_is 47 = .ok (.if_icmp .ne 20, 3) := by decide +kernel
theorem dX6_is_50 : decode cX6_is 50 = .ok (.iload_n 3, 1) := by decide +kernel
theorem dX6_is_51 : decode cX6_is 51 = .ok (.ifCond .eq 12, 3) := by decide +kernel
theorem dX6_is_54 : decode cX6_is 54 = .ok (.iload 4, 2) := by decide +kernel
theorem dX6_is_56 : decode cX6_is 56 = .ok (.ifCond .ne 7, 3) := by decide +kernel
theorem dX6_is_59 : decode cX6_is 59 = .ok (.iconst 1, 1) := by decide +kernel
theorem dX6_is_60 : decode cX6_is 60 = .ok (.goto 65, 3) := by decide +kernel
theorem dX6_is_63 : decode cX6_is 63 = .ok (.iconst 0, 1) := by decide +kernel
theorem dX6_is_64 : decode cX6_is 64 = .ok (.goto 61, 3) := by decide +kernel
theorem dX6_is_67 : decode cX6_is 67 = .ok (.iload_n 1, 1) := by decide +kernel
theorem dX6_is_68 : decode cX6_is 68 = .ok (.iconst 2, 1) := by decide +kernel
theorem dX6_is_69 : decode cX6_is 69 = .ok (.if_icmp .ne 20, 3) := by decide +kernel
theorem dX6_is_72 : decode cX6_is 72 = .ok (.iload 4, 2) := by decide +kernel
theorem dX6_is_74 : decode cX6_is 74 = .ok (.ifCond .eq 11, 3) := by decide +kernel
theorem dX6_is_77 : decode cX6_is 77 = .ok (.iload_n 3, 1) := by decide +kernel
theorem dX6_is_78 : decode cX6_is 78 = .ok (.ifCond .ne 7, 3) := by decide +kernel
theorem dX6_is_81 : decode cX6_is 81 = .ok (.iconst 1, 1) := by decide +kernel
theorem dX6_is_82 : decode cX6_is 82 = .ok (.goto 43, 3) := by decide +kernel
theorem dX6_is_85 : decode cX6_is 85 = .ok (.iconst 0, 1) := by decide +kernel
theorem dX6_is_86 : decode cX6_is 86 = .ok (.goto 39, 3) := by decide +kernel
theorem dX6_is_89 : decode cX6_is 89 = .ok (.iload_n 1, 1) := by decide +kernel
theorem dX6_is_90 : decode cX6_is 90 = .ok (.iconst 3, 1) := by decide +kernel
theorem dX6_is_91 : decode cX6_is 91 = .ok (.if_icmp .ne 20, 3) := by decide +kernel
theorem dX6_is_94 : decode cX6_is 94 = .ok (.iload_n 3, 1) := by decide +kernel
theorem dX6_is_95 : decode cX6_is 95 = .ok (.ifCond .eq 12, 3) := by decide +kernel
theorem dX6_is_98 : decode cX6_is 98 = .ok (.iload 4, 2) := by decide +kernel
theorem dX6_is_100 : decode cX6_is 100 = .ok (.ifCond .eq 7, 3) := by decide +kernel
theorem dX6_is_103 : decode cX6_is 103 = .ok (.iconst 1, 1) := by decide +kernel
theorem dX6_is_104 : decode cX6_is 104 = .ok (.goto 21, 3) := by decide +kernel
theorem dX6_is_107 : decode cX6_is 107 = .ok (.iconst 0, 1) := by decide +kernel
theorem dX6_is_108 : decode cX6_is 108 = .ok (.goto 17, 3) := by decide +kernel
theorem dX6_is_111 : decode cX6_is 111 = .ok (.iload_n 3, 1) := by decide +kernel
theorem dX6_is_112 : decode cX6_is 112 = .ok (.ifCond .ne 12, 3) := by decide +kernel
theorem dX6_is_115 : decode cX6_is 115 = .ok (.iload 4, 2) := by decide +kernel
theorem dX6_is_117 : decode cX6_is 117 = .ok (.ifCond .ne 7, 3) := by decide +kernel
theorem dX6_is_120 : decode cX6_is 120 = .ok (.iconst 1, 1) := by decide +kernel
theorem dX6_is_121 : decode cX6_is 121 = .ok (.goto 4, 3) := by decide +kernel
theorem dX6_is_124 : decode cX6_is 124 = .ok (.iconst 0, 1) := by decide +kernel
theorem dX6_is_125 : decode cX6_is 125 = .ok (.ireturn, 1) := by decide +kernel
theorem dX6_tell_0 : decode cX6_tell 0 = .ok (.iload_n 1, 1) := by decide +kernel
theorem dX6_tell_1 : decode cX6_tell 1 = .ok (.istore_n 2, 1) := by decide +kernel
theorem dX6_tell_2 : decode cX6_tell 2 = .ok (.iload_n 2, 1) := by decide +kernel
theorem dX6_tell_3 : decode cX6_tell 3 = .ok (.ifCond .eq 23, 3) := by decide +kernel
theorem dX6_tell_6 : decode cX6_tell 6 = .ok (.aload_n 0, 1) := by decide +kernel
theorem dX6_tell_7 : decode cX6_tell 7 = .ok (.dup, 1) := by decide +kernel
theorem dX6_tell_8 : decode cX6_tell 8 = .ok (.getfield 276, 3) := by decide +kernel
theorem dX6_tell_11 : decode cX6_tell 11 = .ok (.iconst 1, 1) := by decide +kernel
theorem dX6_tell_12 : decode cX6_tell 12 = .ok (.iadd, 1) := by decide +kernel
theorem dX6_tell_13 : decode cX6_tell 13 = .ok (.putfield 276, 3) := by decide +kernel
theorem dX6_tell_16 : decode cX6_tell 16 = .ok (.aload_n 0, 1) := by decide +kernel
theorem dX6_tell_17 : decode cX6_tell 17 = .ok (.getfield 235, 3) := by decide +kernel
theorem dX6_tell_20 : decode cX6_tell 20 = .ok (.iload_n 2, 1) := by decide +kernel
theorem dX6_tell_21 : decode cX6_tell 21 = .ok (.iaload, 1) := by decide +kernel
theorem dX6_tell_22 : decode cX6_tell 22 = .ok (.istore_n 2, 1) := by decide +kernel
theorem dX6_tell_23 : decode cX6_tell 23 = .ok (.goto (-21), 3) := by decide +kernel
theorem dX6_tell_26 : decode cX6_tell 26 = .ok (.aload_n 0, 1) := by decide +kernel
theorem dX6_tell_27 : decode cX6_tell 27 = .ok (.getfield 276, 3) := by decide +kernel
theorem dX6_tell_30 : decode cX6_tell 30 = .ok (.istore_n 2, 1) := by decide +kernel
theorem dX6_tell_31 : decode cX6_tell 31 = .ok (.iload_n 1, 1) := by decide +kernel
theorem dX6_tell_32 : decode cX6_tell 32 = .ok (.istore_n 3, 1) := by decide +kernel
theorem dX6_tell_33 : decode cX6_tell 33 = .ok (.iload_n 3, 1) := by decide +kernel
theorem dX6_tell_34 : decode cX6_tell 34 = .ok (.ifCond .eq 28, 3) := by decide +kernel
theorem dX6_tell_37 : decode cX6_tell 37 = .ok (.iinc 2 (-1), 3) := by decide +kernel
theorem dX6_tell_40 : decode cX6_tell 40 = .ok (.aload_n 0, 1) := by decide +kernel
theorem dX6_tell_41 : decode cX6_tell 41 = .ok (.getfield 229, 3) := by decide +kernel
theorem dX6_tell_44 : decode cX6_tell 44 = .ok (.iload_n 2, 1) := by decide +kernel
theorem dX6_tell_45 : decode cX6_tell 45 = .ok (.aload_n 0, 1) := by decide +kernel
theorem dX6_tell_46 : decode cX6_tell 46 = .ok (.getfield 238, 3) := by decide +kernel
theorem dX6_tell_49 : decode cX6_tell 49 = .ok (.iload_n 3, 1) := by decide +kernel
theorem dX6_tell_50 : decode cX6_tell 50 = .ok (.baload, 1) := by decide +kernel
theorem dX6_tell_51 : decode cX6_tell 51 = .ok (.bastore, 1) := by decide +kernel
theorem dX6_tell_52 : decode cX6_tell 52 = .ok (.aload_n 0, 1) := by decide +kernel
theorem dX6_tell_53 : decode cX6_tell 53 = .ok (.getfield 235, 3) := by decide +kernel
theorem dX6_tell_56 : decode cX6_tell 56 = .ok (.iload_n 3, 1) := by decide +kernel
theorem dX6_tell_57 : decode cX6_tell 57 = .ok (.iaload, 1) := by decide +kernel
theorem dX6_tell_58 : decode cX6_tell 58 = .ok (.istore_n 3, 1) := by decide +kernel
theorem dX6_tell_59 : decode cX6_tell 59 = .ok (.goto (-26), 3) := by decide +kernel
theorem dX6_tell_62 : decode cX6_tell 62 = .ok (.aload_n 0, 1) := by decide +kernel
theorem dX6_tell_63 : decode cX6_tell 63 = .ok (.getfield 276, 3) := by decide +kernel
theorem dX6_tell_66 : decode cX6_tell 66 = .ok (.ireturn, 1) := by decide +kernel
theorem dX6_octet_0 : decode cX6_octet 0 = .ok (.aload_n 0, 1) := by decide +kernel
theorem dX6_octet_1 : decode cX6_octet 1 = .ok (.iconst 0, 1) := by decide +kernel
theorem dX6_octet_2 : decode cX6_octet 2 = .ok (.putfield 3, 3) := by decide +kernel
theorem dX6_octet_5 : decode cX6_octet 5 = .ok (.iload_n 1, 1) := by decide +kernel
theorem dX6_octet_6 : decode cX6_octet 6 = .ok (.ifCond .lt 11, 3) := by decide +kernel
theorem dX6_octet_9 : decode cX6_octet 9 = .ok (.iload_n 1, 1) := by decide +kernel
theorem dX6_octet_10 : decode cX6_octet 10 = .ok (.aload_n 0, 1) := by decide +kernel
theorem dX6_octet_11 : decode cX6_octet 11 = .ok (.getfield 276, 3) := by decide +kernel
theorem dX6_octet_14 : decode cX6_octet 14 = .ok (.if_icmp .lt 9, 3) := by decide +kernel
theorem dX6_octet_17 : decode cX6_octet 17 = .ok (.aload_n 0, 1) := by decide +kernel
theorem dX6_octet_18 : decode cX6_octet 18 = .ok (.iconst 1, 1) := by decide +kernel
theorem dX6_octet_19 : decode cX6_octet 19 = .ok (.invokevirtual 267, 3) := by decide +kernel
theorem dX6_octet_22 : decode cX6_octet 22 = .ok (.ireturn, 1) := by decide +kernel
theorem dX6_octet_23 : decode cX6_octet 23 = .ok (.aload_n 0, 1) := by decide +kernel
theorem dX6_octet_24 : decode cX6_octet 24 = .ok (.getfield 229, 3) := by decide +kernel
theorem dX6_octet_27 : decode cX6_octet 27 = .ok (.iload_n 1, 1) := by decide +kernel
theorem dX6_octet_28 : decode cX6_octet 28 = .ok (.baload, 1) := by decide +kernel
theorem dX6_octet_29 : decode cX6_octet 29 = .ok (.ireturn, 1) := by decide +kernel
theorem dX6_count_0 : decode cX6_count 0 = .ok (.aload_n 0, 1) := by decide +kernel
theorem dX6_count_1 : decode cX6_count 1 = .ok (.iconst 0, 1) := by decide +kernel
theorem dX6_count_2 : decode cX6_count 2 = .ok (.putfield 3, 3) := by decide +kernel
theorem dX6_count_5 : decode cX6_count 5 = .ok (.iload_n 1, 1) := by decide +kernel
theorem dX6_count_6 : decode cX6_count 6 = .ok (.ifCond .eq 8, 3) := by decide +kernel
theorem dX6_count_9 : decode cX6_count 9 = .ok (.iload_n 1, 1) := by decide +kernel
theorem dX6_count_10 : decode cX6_count 10 = .ok (.iconst 1, 1) := by decide +kernel
theorem dX6_count_11 : decode cX6_count 11 = .ok (.if_icmp .ne 13, 3) := by decide +kernel
theorem dX6_count_14 : decode cX6_count 14 = .ok (.iload_n 2, 1) := by decide +kernel
theorem dX6_count_15 : decode cX6_count 15 = .ok (.ifCond .lt 9, 3) := by decide +kernel
theorem dX6_count_18 : decode cX6_count 18 = .ok (.iload_n 2, 1) := by decide +kernel
theorem dX6_count_19 : decode cX6_count 19 = .ok (.bipush 12, 2) := by decide +kernel
theorem dX6_count_21 : decode cX6_count 21 = .ok (.if_icmp .le 10, 3) := by decide +kernel
theorem dX6_count_24 : decode cX6_count 24 = .ok (.aload_n 0, 1) := by decide +kernel
theorem dX6_count_25 : decode cX6_count 25 = .ok (.iconst 1, 1) := by decide +kernel
theorem dX6_count_26 : decode cX6_count 26 = .ok (.invokevirtual 267, 3) := by decide +kernel
theorem dX6_count_29 : decode cX6_count 29 = .ok (.i2l, 1) := by decide +kernel
theorem dX6_count_30 : decode cX6_count 30 = .ok (.lreturn, 1) := by decide +kernel
theorem dX6_count_31 : decode cX6_count 31 = .ok (.aload_n 0, 1) := by decide +kernel
theorem dX6_count_32 : decode cX6_count 32 = .ok (.getfield 222, 3) := by decide +kernel
theorem dX6_count_35 : decode cX6_count 35 = .ok (.iload_n 1, 1) := by decide +kernel
theorem dX6_count_36 : decode cX6_count 36 = .ok (.iaload, 1) := by decide +kernel
theorem dX6_count_37 : decode cX6_count 37 = .ok (.istore_n 3, 1) := by decide +kernel
theorem dX6_count_38 : decode cX6_count 38 = .ok (.iconst 0, 1) := by decide +kernel
theorem dX6_count_39 : decode cX6_count 39 = .ok (.istore 4, 2) := by decide +kernel
theorem dX6_count_41 : decode cX6_count 41 = .ok (.iload 4, 2) := by decide +kernel
theorem dX6_count_43 : decode cX6_count 43 = .ok (.iload_n 3, 1) := by decide +kernel
theorem dX6_count_44 : decode cX6_count 44 = .ok (.if_icmp .ge 37, 3) := by decide +kernel
theorem dX6_count_47 : decode cX6_count 47 = .ok (.aload_n 0, 1) := by decide +kernel
theorem dX6_count_48 : decode cX6_count 48 = .ok (.getfield 241, 3) := by decide +kernel
theorem dX6_count_51 : decode cX6_count 51 = .ok (.iload 4, 2) := by decide +kernel
theorem dX6_count_53 : decode cX6_count 53 = .ok (.aload_n 0, 1) := by decide +kernel
theorem dX6_count_54 : decode cX6_count 54 = .ok (.getfield 225, 3) := by decide +kernel
theorem dX6_count_57 : decode cX6_count 57 = .ok (.sipush 402, 3) := by decide +kernel
theorem dX6_count_60 : decode cX6_count 60 = .ok (.iload_n 1, 1) := by decide +kernel
theorem dX6_count_61 : decode cX6_count 61 = .ok (.imul, 1) := by decide +kernel
theorem dX6_count_62 : decode cX6_count 62 = .ok (.iload 4, 2) := by decide +kernel
theorem dX6_count_64 : decode cX6_count 64 = .ok (.iadd, 1) := by decide +kernel
theorem dX6_count_65 : decode cX6_count 65 = .ok (.baload, 1) := by decide +kernel
theorem dX6_count_66 : decode cX6_count 66 = .ok (.ifCond .eq 7, 3) := by decide +kernel
theorem dX6_count_69 : decode cX6_count 69 = .ok (.lconst 1, 1) := by decide +kernel
theorem dX6_count_70 : decode cX6_count 70 = .ok (.goto 4, 3) := by decide +kernel
theorem dX6_count_73 : decode cX6_count 73 = .ok (.lconst 0, 1) := by decide +kernel
theorem dX6_count_74 : decode cX6_count 74 = .ok (.lastore, 1) := by decide +kernel
theorem dX6_count_75 : decode cX6_count 75 = .ok (.iinc 4 1, 3) := by decide +kernel
theorem dX6_count_78 : decode cX6_count 78 = .ok (.goto (-37), 3) := by decide +kernel
theorem dX6_count_81 : decode cX6_count 81 = .ok (.iconst 0, 1) := by decide +kernel
theorem dX6_count_82 : decode cX6_count 82 = .ok (.istore 4, 2) := by decide +kernel
theorem dX6_count_84 : decode cX6_count 84 = .ok (.iload 4, 2) := by decide +kernel
theorem dX6_count_86 : decode cX6_count 86 = .ok (.iload_n 2, 1) := by decide +kernel
theorem dX6_count_87 : decode cX6_count 87 = .ok (.if_icmp .ge 113, 3) := by decide +kernel
theorem dX6_count_90 : decode cX6_count 90 = .ok (.iconst 0, 1) := by decide +kernel
theorem dX6_count_91 : decode cX6_count 91 = .ok (.istore 5, 2) := by decide +kernel
theorem dX6_count_93 : decode cX6_count 93 = .ok (.iload 5, 2) := by decide +kernel
theorem dX6_count_95 : decode cX6_count 95 = .ok (.iload_n 3, 1) := by decide +kernel
theorem dX6_count_96 : decode cX6_count 96 = .ok (.if_icmp .ge 23, 3) := by decide +kernel
theorem dX6_count_99 : decode cX6_count 99 = .ok (.aload_n 0, 1) := by decide +kernel
theorem dX6_count_100 : decode cX6_count 100 = .ok (.getfield 244, 3) := by decide +kernel
theorem dX6_count_103 : decode cX6_count 103 = .ok (.iload 5, 2) := by decide +kernel
theorem dX6_count_105 : decode cX6_count 105 = .ok (.aload_n 0, 1) := by decide +kernel
theorem dX6_count_106 : decode cX6_count 106 = .ok (.getfield 241, 3) := by decide +kernel
theorem dX6_count_109 : decode cX6_count 109 = .ok (.iload 5, 2) := by decide +kernel
theorem dX6_count_111 : decode cX6_count 111 = .ok (.laload, 1) := by decide +kernel
theorem dX6_count_112 : decode cX6_count 112 = .ok (.lastore, 1) := by decide +kernel
theorem dX6_count_113 : decode cX6_count 113 = .ok (.iinc 5 1, 3) := by decide +kernel
theorem dX6_count_116 : decode cX6_count 116 = .ok (.goto (-23), 3) := by decide +kernel
theorem dX6_count_119 : decode cX6_count 119 = .ok (.iconst 0, 1) := by decide +kernel
theorem dX6_count_120 : decode cX6_count 120 = .ok (.istore 5, 2) := by decide +kernel
theorem dX6_count_122 : decode cX6_count 122 = .ok (.iload 5, 2) := by decide +kernel
theorem dX6_count_124 : decode cX6_count 124 = .ok (.iload_n 3, 1) := by decide +kernel
theorem dX6_count_125 : decode cX6_count 125 = .ok (.if_icmp .ge 69, 3) := by decide +kernel
theorem dX6_count_128 : decode cX6_count 128 = .ok (.aload_n 0, 1) := by decide +kernel
theorem dX6_count_129 : decode cX6_count 129 = .ok (.getfield 241, 3) := by decide +kernel
theorem dX6_count_132 : decode cX6_count 132 = .ok (.iload 5, 2) := by decide +kernel
theorem dX6_count_134 : decode cX6_count 134 = .ok (.lconst 0, 1) := by decide +kernel
theorem dX6_count_135 : decode cX6_count 135 = .ok (.lastore, 1) := by decide +kernel
theorem dX6_count_136 : decode cX6_count 136 = .ok (.iconst 0, 1) := by decide +kernel
theorem dX6_count_137 : decode cX6_count 137 = .ok (.istore 6, 2) := by decide +kernel
theorem dX6_count_139 : decode cX6_count 139 = .ok (.iload 6, 2) := by decide +kernel
theorem dX6_count_141 : decode cX6_count 141 = .ok (.sipush 128, 3) := by decide +kernel
theorem dX6_count_144 : decode cX6_count 144 = .ok (.if_icmp .ge 44, 3) := by decide +kernel
theorem dX6_count_147 : decode cX6_count 147 = .ok (.aload_n 0, 1) := by decide +kernel
theorem dX6_count_148 : decode cX6_count 148 = .ok (.getfield 241, 3) := by decide +kernel
theorem dX6_count_151 : decode cX6_count 151 = .ok (.iload 5, 2) := by decide +kernel
theorem dX6_count_153 : decode cX6_count 153 = .ok (.dup2, 1) := by decide +kernel
theorem dX6_count_154 : decode cX6_count 154 = .ok (.laload, 1) := by decide +kernel
theorem dX6_count_155 : decode cX6_count 155 = .ok (.aload_n 0, 1) := by decide +kernel
theorem dX6_count_156 : decode cX6_count 156 = .ok (.getfield 244, 3) := by decide +kernel
theorem dX6_count_159 : decode cX6_count 159 = .ok (.aload_n 0, 1) := by decide +kernel
theorem dX6_count_160 : decode cX6_count 160 = .ok (.getfield 219, 3) := by decide +kernel
theorem dX6_count_163 : decode cX6_count 163 = .ok (.sipush 128, 3) := by decide +kernel
theorem dX6_count_166 : decode cX6_count 166 = .ok (.sipush 402, 3) := by decide +kernel
theorem dX6_count_169 : decode cX6_count 169 = .ok (.iload_n 1, 1) := by decide +kernel
theorem dX6_count_170 : decode cX6_count 170 = .ok (.imul, 1) := by decide +kernel
theorem dX6_count_171 : decode cX6_count 171 = .ok (.iload 5, 2) := by decide +kernel
theorem dX6_count_173 : decode cX6_count 173 = .ok (.iadd, 1) := by decide +kernel
theorem dX6_count_174 : decode cX6_count 174 = .ok (.imul, 1) := by decide +kernel
theorem dX6_count_175 : decode cX6_count 175 = .ok (.iload 6, 2) := by decide +kernel
theorem dX6_count_177 : decode cX6_count 177 = .ok (.iadd, 1) := by decide +kernel
theorem dX6_count_178 : decode cX6_count 178 = .ok (.iaload, 1) := by decide +kernel
theorem dX6_count_179 : decode cX6_count 179 = .ok (.laload, 1) := by decide +kernel
theorem dX6_count_180 : decode cX6_count 180 = .ok (.ladd, 1) := by decide +kernel
theorem dX6_count_181 : decode cX6_count 181 = .ok (.lastore, 1) := by decide +kernel
theorem dX6_count_182 : decode cX6_count 182 = .ok (.iinc 6 1, 3) := by decide +kernel
theorem dX6_count_185 : decode cX6_count 185 = .ok (.goto (-46), 3) := by decide +kernel
theorem dX6_count_188 : decode cX6_count 188 = .ok (.iinc 5 1, 3) := by decide +kernel
theorem dX6_count_191 : decode cX6_count 191 = .ok (.goto (-69), 3) := by decide +kernel
theorem dX6_count_194 : decode cX6_count 194 = .ok (.iinc 4 1, 3) := by decide +kernel
theorem dX6_count_197 : decode cX6_count 197 = .ok (.goto (-113), 3) := by decide +kernel
theorem dX6_count_200 : decode cX6_count 200 = .ok (.aload_n 0, 1) := by decide +kernel
theorem dX6_count_201 : decode cX6_count 201 = .ok (.getfield 241, 3) := by decide +kernel
theorem dX6_count_204 : decode cX6_count 204 = .ok (.iconst 0, 1) := by decide +kernel
theorem dX6_count_205 : decode cX6_count 205 = .ok (.laload, 1) := by decide +kernel
theorem dX6_count_206 : decode cX6_count 206 = .ok (.lreturn, 1) := by decide +kernel
theorem dX6_place_0 : decode cX6_place 0 = .ok (.aload_n 0, 1) := by decide +kernel
theorem dX6_place_1 : decode cX6_place 1 = .ok (.iconst 0, 1) := by decide +kernel
theorem dX6_place_2 : decode cX6_place 2 = .ok (.putfield 3, 3) := by decide +kernel
theorem dX6_place_5 : decode cX6_place 5 = .ok (.aload_n 0, 1) := by decide +kernel
theorem dX6_place_6 : decode cX6_place 6 = .ok (.getfield 214, 3) := by decide +kernel
theorem dX6_place_9 : decode cX6_place 9 = .ok (.ireturn, 1) := by decide +kernel
