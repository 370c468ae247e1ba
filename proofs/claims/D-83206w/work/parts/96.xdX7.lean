set_option maxRecDepth 100000
theorem dX0_part_0 : decode cX0_part 0 = .ok (.aload_n 3, 1) := by decide +kernel
theorem dX0_part_1 : decode cX0_part 1 = .ok (.iconst 0, 1) := by decide +kernel
theorem dX0_part_2 : decode cX0_part 2 = .ok (.aload_n 0, 1) := by decide +kernel
theorem dX0_part_3 : decode cX0_part 3 = .ok (.iload_n 1, 1) := by decide +kernel
theorem dX0_part_4 : decode cX0_part 4 = .ok (.iload_n 2, 1) := by decide +kernel
theorem dX0_part_5 : decode cX0_part 5 = .ok (.invokevirtual 7, 3) := by decide +kernel
theorem dX0_part_8 : decode cX0_part 8 = .ok (.i2l, 1) := by decide +kernel
theorem dX0_part_9 : decode cX0_part 9 = .ok (.lastore, 1) := by decide +kernel
theorem dX0_part_10 : decode cX0_part 10 = .ok (.goto 7, 3) := by decide +kernel
theorem dX0_part_13 : decode cX0_part 13 = .ok (.astore 4, 2) := by decide +kernel
theorem dX0_part_15 : decode cX0_part 15 = .ok (.iconst 1, 1) := by decide +kernel
theorem dX0_part_16 : decode cX0_part 16 = .ok (.ireturn, 1) := by decide +kernel
theorem dX0_part_17 : decode cX0_part 17 = .ok (.iconst 0, 1) := by decide +kernel
theorem dX0_part_18 : decode cX0_part 18 = .ok (.ireturn, 1) := by decide +kernel
theorem dX7_init_0 : decode cX7_init 0 = .ok (.aload_n 0, 1) := by decide +kernel
theorem dX7_init_1 : decode cX7_init 1 = .ok (.invokespecial 3, 3) := by decide +kernel
theorem dX7_init_4 : decode cX7_init 4 = .ok (.aload_n 0, 1) := by decide +kernel
theorem dX7_init_5 : decode cX7_init 5 = .ok (.ldc 9, 2) := by decide +kernel
theorem dX7_init_7 : decode cX7_init 7 = .ok (.putfield 11, 3) := by decide +kernel
theorem dX7_init_10 : decode cX7_init 10 = .ok (.aload_n 0, 1) := by decide +kernel
theorem dX7_init_11 : decode cX7_init 11 = .ok (.aload_n 1, 1) := by decide +kernel
theorem dX7_init_12 : decode cX7_init 12 = .ok (.putfield 17, 3) := by decide +kernel
theorem dX7_init_15 : decode cX7_init 15 = .ok (.aload_n 0, 1) := by decide +kernel
theorem dX7_init_16 : decode cX7_init 16 = .ok (.iload_n 2, 1) := by decide +kernel
theorem dX7_init_17 : decode cX7_init 17 = .ok (.putfield 21, 3) := by decide +kernel
theorem dX7_init_20 : decode cX7_init 20 = .ok (.aload_n 0, 1) := by decide +kernel
theorem dX7_init_21 : decode cX7_init 21 = .ok (.invokevirtual 25, 3) := by decide +kernel
theorem dX7_init_24 : decode cX7_init 24 = .ok (.return_, 1) := by decide +kernel
theorem dX7_next_0 : decode cX7_next 0 = .ok (.aload_n 0, 1) := by decide +kernel
theorem dX7_next_1 : decode cX7_next 1 = .ok (.invokevirtual 31, 3) := by decide +kernel
theorem dX7_next_4 : decode cX7_next 4 = .ok (.bipush 32, 2) := by decide +kernel
theorem dX7_next_6 : decode cX7_next 6 = .ok (.if_icmp .eq 12, 3) := by decide +kernel
theorem dX7_next_9 : decode cX7_next 9 = .ok (.aload_n 0, 1) := by decide +kernel
theorem dX7_next_10 : decode cX7_next 10 = .ok (.invokevirtual 31, 3) := by decide +kernel
theorem dX7_next_13 : decode cX7_next 13 = .ok (.bipush 10, 2) := by decide +kernel
theorem dX7_next_15 : decode cX7_next 15 = .ok (.if_icmp .ne 16, 3) := by decide +kernel
theorem dX7_next_18 : decode cX7_next 18 = .ok (.aload_n 0, 1) := by decide +kernel
theorem dX7_next_19 : decode cX7_next 19 = .ok (.dup, 1) := by decide +kernel
theorem dX7_next_20 : decode cX7_next 20 = .ok (.getfield 28, 3) := by decide +kernel
theorem dX7_next_23 : decode cX7_next 23 = .ok (.iconst 1, 1) := by decide +kernel
theorem dX7_next_24 : decode cX7_next 24 = .ok (.iadd, 1) := by decide +kernel
theorem dX7_next_25 : decode cX7_next 25 = .ok (.putfield 28, 3) := by decide +kernel
theorem dX7_next_28 : decode cX7_next 28 = .ok (.goto (-28), 3) := by decide +kernel
theorem dX7_next_31 : decode cX7_next 31 = .ok (.aload_n 0, 1) := by decide +kernel
theorem dX7_next_32 : decode cX7_next 32 = .ok (.aload_n 0, 1) := by decide +kernel
theorem dX7_next_33 : decode cX7_next 33 = .ok (.getfield 28, 3) := by decide +kernel
theorem dX7_next_36 : decode cX7_next 36 = .ok (.putfield 35, 3) := by decide +kernel
theorem dX7_next_39 : decode cX7_next 39 = .ok (.aload_n 0, 1) := by decide +kernel
theorem dX7_next_40 : decode cX7_next 40 = .ok (.invokevirtual 31, 3) := by decide +kernel
theorem dX7_next_43 : decode cX7_next 43 = .ok (.istore_n 1, 1) := by decide +kernel
theorem dX7_next_44 : decode cX7_next 44 = .ok (.iload_n 1, 1) := by decide +kernel
theorem dX7_next_45 : decode cX7_next 45 = .ok (.iconst (-1), 1) := by decide +kernel
theorem dX7_next_46 : decode cX7_next 46 = .ok (.if_icmp .ne 11, 3) := by decide +kernel
theorem dX7_next_49 : decode cX7_next 49 = .ok (.aload_n 0, 1) := by decide +kernel
theorem dX7_next_50 : decode cX7_next 50 = .ok (.iconst 0, 1) := by decide +kernel
theorem dX7_next_51 : decode cX7_next 51 = .ok (.putfield 38, 3) := by decide +kernel
theorem dX7_next_54 : decode cX7_next 54 = .ok (.goto 244, 3) := by decide +kernel
theorem dX7_next_57 : decode cX7_next 57 = .ok (.iload_n 1, 1) := by decide +kernel
theorem dX7_next_58 : decode cX7_next 58 = .ok (.bipush 97, 2) := by decide +kernel
theorem dX7_next_60 : decode cX7_next 60 = .ok (.if_icmp .lt 90, 3) := by decide +kernel
theorem dX7_next_63 : decode cX7_next 63 = .ok (.iload_n 1, 1) := by decide +kernel
theorem dX7_next_64 : decode cX7_next 64 = .ok (.bipush 122, 2) := by decide +kernel
theorem dX7_next_66 : decode cX7_next 66 = .ok (.if_icmp .gt 84, 3) := by decide +kernel
theorem dX7_next_69 : decode cX7_next 69 = .ok (.new 41, 3) := by decide +kernel
theorem dX7_next_72 : decode cX7_next 72 = .ok (.dup, 1) := by decide +kernel
theorem dX7_next_73 : decode cX7_next 73 = .ok (.invokespecial 43, 3) := by decide +kernel
theorem dX7_next_76 : decode cX7_next 76 = .ok (.astore_n 2, 1) := by decide +kernel
theorem dX7_next_77 : decode cX7_next 77 = .ok (.aload_n 0, 1) := by decide +kernel
theorem dX7_next_78 : decode cX7_next 78 = .ok (.invokevirtual 31, 3) := by decide +kernel
theorem dX7_next_81 : decode cX7_next 81 = .ok (.bipush 97, 2) := by decide +kernel
theorem dX7_next_83 : decode cX7_next 83 = .ok (.if_icmp .lt 35, 3) := by decide +kernel
theorem dX7_next_86 : decode cX7_next 86 = .ok (.aload_n 0, 1) := by decide +kernel
theorem dX7_next_87 : decode cX7_next 87 = .ok (.invokevirtual 31, 3) := by decide +kernel
theorem dX7_next_90 : decode cX7_next 90 = .ok (.bipush 122, 2) := by decide +kernel
theorem dX7_next_92 : decode cX7_next 92 = .ok (.if_icmp .gt 26, 3) := by decide +kernel
theorem dX7_next_95 : decode cX7_next 95 = .ok (.aload_n 2, 1) := by decide +kernel
theorem dX7_next_96 : decode cX7_next 96 = .ok (.aload_n 0, 1) := by decide +kernel
theorem dX7_next_97 : decode cX7_next 97 = .ok (.invokevirtual 31, 3) := by decide +kernel
theorem dX7_next_100 : decode cX7_next 100 = .ok (.i2c, 1) := by decide +kernel
theorem dX7_next_101 : decode cX7_next 101 = .ok (.invokevirtual 44, 3) := by decide +kernel
theorem dX7_next_104 : decode cX7_next 104 = .ok (.pop, 1) := by decide +kernel
theorem dX7_next_105 : decode cX7_next 105 = .ok (.aload_n 0, 1) := by decide +kernel
theorem dX7_next_106 : decode cX7_next 106 = .ok (.dup, 1) := by decide +kernel
theorem dX7_next_107 : decode cX7_next 107 = .ok (.getfield 28, 3) := by decide +kernel
theorem dX7_next_110 : decode cX7_next 110 = .ok (.iconst 1, 1) := by decide +kernel
theorem dX7_next_111 : decode cX7_next 111 = .ok (.iadd, 1) := by decide +kernel
theorem dX7_next_112 : decode cX7_next 112 = .ok (.putfield 28, 3) := by decide +kernel
theorem dX7_next_115 : decode cX7_next 115 = .ok (.goto (-38), 3) := by decide +kernel
theorem dX7_next_118 : decode cX7_next 118 = .ok (.aload_n 0, 1) := by decide +kernel
theorem dX7_next_119 : decode cX7_next 119 = .ok (.aload_n 2, 1) := by decide +kernel
theorem dX7_next_120 : decode cX7_next 120 = .ok (.invokevirtual 48, 3) := by decide +kernel
theorem dX7_next_123 : decode cX7_next 123 = .ok (.putfield 11, 3) := by decide +kernel
theorem dX7_next_126 : decode cX7_next 126 = .ok (.aload_n 0, 1) := by decide +kernel
theorem dX7_next_127 : decode cX7_next 127 = .ok (.aload_n 0, 1) := by decide +kernel
theorem dX7_next_128 : decode cX7_next 128 = .ok (.getfield 11, 3) := by decide +kernel
theorem dX7_next_131 : decode cX7_next 131 = .ok (.invokevirtual 52, 3) := by decide +kernel
theorem dX7_next_134 : decode cX7_next 134 = .ok (.bipush 8, 2) := by decide +kernel
theorem dX7_next_136 : decode cX7_next 136 = .ok (.if_icmp .le 7, 3) := by decide +kernel
theorem dX7_next_139 : decode cX7_next 139 = .ok (.iconst 4, 1) := by decide +kernel
theorem dX7_next_140 : decode cX7_next 140 = .ok (.goto 4, 3) := by decide +kernel
theorem dX7_next_143 : decode cX7_next 143 = .ok (.iconst 1, 1) := by decide +kernel
theorem dX7_next_144 : decode cX7_next 144 = .ok (.putfield 38, 3) := by decide +kernel
theorem dX7_next_147 : decode cX7_next 147 = .ok (.goto 151, 3) := by decide +kernel
theorem dX7_next_150 : decode cX7_next 150 = .ok (.iload_n 1, 1) := by decide +kernel
theorem dX7_next_151 : decode cX7_next 151 = .ok (.bipush 48, 2) := by decide +kernel
theorem dX7_next_153 : decode cX7_next 153 = .ok (.if_icmp .lt 91, 3) := by decide +kernel
theorem dX7_next_156 : decode cX7_next 156 = .ok (.iload_n 1, 1) := by decide +kernel
theorem dX7_next_157 : decode cX7_next 157 = .ok (.bipush 57, 2) := by decide +kernel
theorem dX7_next_159 : decode cX7_next 159 = .ok (.if_icmp .gt 85, 3) := by decide +kernel
theorem dX7_next_162 : decode cX7_next 162 = .ok (.iconst 0, 1) := by decide +kernel
theorem dX7_next_163 : decode cX7_next 163 = .ok (.istore_n 2, 1) := by decide +kernel
theorem dX7_next_164 : decode cX7_next 164 = .ok (.aload_n 0, 1) := by decide +kernel
theorem dX7_next_165 : decode cX7_next 165 = .ok (.iconst 0, 1) := by decide +kernel
theorem dX7_next_166 : decode cX7_next 166 = .ok (.putfield 57, 3) := by decide +kernel
theorem dX7_next_169 : decode cX7_next 169 = .ok (.aload_n 0, 1) := by decide +kernel
theorem dX7_next_170 : decode cX7_next 170 = .ok (.invokevirtual 31, 3) := by decide +kernel
theorem dX7_next_173 : decode cX7_next 173 = .ok (.bipush 48, 2) := by decide +kernel
theorem dX7_next_175 : decode cX7_next 175 = .ok (.if_icmp .lt 52, 3) := by decide +kernel
theorem dX7_next_178 : decode cX7_next 178 = .ok (.aload_n 0, 1) := by decide +kernel
theorem dX7_next_179 : decode cX7_next 179 = .ok (.invokevirtual 31, 3) := by decide +kernel
theorem dX7_next_182 : decode cX7_next 182 = .ok (.bipush 57, 2) := by decide +kernel
theorem dX7_next_184 : decode cX7_next 184 = .ok (.if_icmp .gt 43, 3) := by decide +kernel
theorem dX7_next_187 : decode cX7_next 187 = .ok (.iload_n 2, 1) := by decide +kernel
theorem dX7_next_188 : decode cX7_next 188 = .ok (.iconst 4, 1) := by decide +kernel
theorem dX7_next_189 : decode cX7_next 189 = .ok (.if_icmp .ge 22, 3) := by decide +kernel
theorem dX7_next_192 : decode cX7_next 192 = .ok (.aload_n 0, 1) := by decide +kernel
theorem dX7_next_193 : decode cX7_next 193 = .ok (.bipush 10, 2) := by decide +kernel
theorem dX7_next_195 : decode cX7_next 195 = .ok (.aload_n 0, 1) := by decide +kernel
theorem dX7_next_196 : decode cX7_next 196 = .ok (.getfield 57, 3) := by decide +kernel
theorem dX7_next_199 : decode cX7_next 199 = .ok (.imul, 1) := by decide +kernel
theorem dX7_next_200 : decode cX7_next 200 = .ok (.aload_n 0, 1) := by decide +kernel
theorem dX7_next_201 : decode cX7_next 201 = .ok (.invokevirtual 31, 3) := by decide +kernel
theorem dX7_next_204 : decode cX7_next 204 = .ok (.iadd, 1) := by decide +kernel
theorem dX7_next_205 : decode cX7_next 205 = .ok (.bipush 48, 2) := by decide +kernel
theorem dX7_next_207 : decode cX7_next 207 = .ok (.isub, 1) := by decide +kernel
theorem dX7_next_208 : decode cX7_next 208 = .ok (.putfield 57, 3) := by decide +kernel
theorem dX7_next_211 : decode cX7_next 211 = .ok (.iinc 2 1, 3) := by decide +kernel
theorem dX7_next_214 : decode cX7_next 214 = .ok (.aload_n 0, 1) := by decide +kernel
theorem dX7_next_215 : decode cX7_next 215 = .ok (.dup, 1) := by decide +kernel
theorem dX7_next_216 : decode cX7_next 216 = .ok (.getfield 28, 3) := by decide +kernel
theorem dX7_next_219 : decode cX7_next 219 = .ok (.iconst 1, 1) := by decide +kernel
theorem dX7_next_220 : decode cX7_next 220 = .ok (.iadd, 1) := by decide +kernel
theorem dX7_next_221 : decode cX7_next 221 = .ok (.putfield 28, 3) := by decide +kernel
theorem dX7_next_224 : decode cX7_next 224 = .ok (.goto (-55), 3) := by decide +kernel
theorem dX7_next_227 : decode cX7_next 227 = .ok (.aload_n 0, 1) := by decide +kernel
theorem dX7_next_228 : decode cX7_next 228 = .ok (.iload_n 2, 1) := by decide +kernel
theorem dX7_next_229 : decode cX7_next 229 = .ok (.iconst 4, 1) := by decide +kernel
theorem dX7_next_230 : decode cX7_next 230 = .ok (.if_icmp .le 7, 3) := by decide +kernel
theorem dX7_next_233 : decode cX7_next 233 = .ok (.iconst 4, 1) := by decide +kernel
theorem dX7_next_234 : decode cX7_next 234 = .ok (.goto 4, 3) := by decide +kernel
theorem dX7_next_237 : decode cX7_next 237 = .ok (.iconst 2, 1) := by decide +kernel
theorem dX7_next_238 : decode cX7_next 238 = .ok (.putfield 38, 3) := by decide +kernel
theorem dX7_next_241 : decode cX7_next 241 = .ok (.goto 57, 3) := by decide +kernel
theorem dX7_next_244 : decode cX7_next 244 = .ok (.aload_n 0, 1) := by decide +kernel
theorem dX7_next_245 : decode cX7_next 245 = .ok (.dup, 1) := by decide +kernel
theorem dX7_next_246 : decode cX7_next 246 = .ok (.getfield 28, 3) := by decide +kernel
theorem dX7_next_249 : decode cX7_next 249 = .ok (.iconst 1, 1) := by decide +kernel
theorem dX7_next_250 : decode cX7_next 250 = .ok (.iadd, 1) := by decide +kernel
theorem dX7_next_251 : decode cX7_next 251 = .ok (.putfield 28, 3) := by decide +kernel
theorem dX7_next_254 : decode cX7_next 254 = .ok (.aload_n 0, 1) := by decide +kernel
theorem dX7_next_255 : decode cX7_next 255 = .ok (.iload_n 1, 1) := by decide +kernel
theorem dX7_next_256 : decode cX7_next 256 = .ok (.putfield 57, 3) := by decide +kernel
theorem dX7_next_259 : decode cX7_next 259 = .ok (.aload_n 0, 1) := by decide +kernel
theorem dX7_next_260 : decode cX7_next 260 = .ok (.iload_n 1, 1) := by decide +kernel
theorem dX7_next_261 : decode cX7_next 261 = .ok (.bipush 60, 2) := by decide +kernel
theorem dX7_next_263 : decode cX7_next 263 = .ok (.if_icmp .eq 27, 3) := by decide +kernel
theorem dX7_next_266 : decode cX7_next 266 = .ok (.iload_n 1, 1) := by decide +kernel
theorem dX7_next_267 : decode cX7_next 267 = .ok (.bipush 61, 2) := by decide +kernel
theorem dX7_next_269 : decode cX7_next 269 = .ok (.if_icmp .eq 21, 3) := by decide +kernel
theorem dX7_next_272 : decode cX7_next 272 = .ok (.iload_n 1, 1) := by decide +kernel
theorem dX7_next_273 : decode cX7_next 273 = .ok (.bipush 62, 2) := by decide +kernel
theorem dX7_next_275 : decode cX7_next 275 = .ok (.if_icmp .eq 15, 3) := by decide +kernel
theorem dX7_next_278 : decode cX7_next 278 = .ok (.iload_n 1, 1) := by decide +kernel
theorem dX7_next_279 : decode cX7_next 279 = .ok (.bipush 58, 2) := by decide +kernel
theorem dX7_next_281 : decode cX7_next 281 = .ok (.if_icmp .eq 9, 3) := by decide +kernel
theorem dX7_next_284 : decode cX7_next 284 = .ok (.iload_n 1, 1) := by decide +kernel
theorem dX7_next_285 : decode cX7_next 285 = .ok (.bipush 59, 2) := by decide +kernel
theorem dX7_next_287 : decode cX7_next 287 = .ok (.if_icmp .ne 7, 3) := by decide +kernel
theorem dX7_next_290 : decode cX7_next 290 = .ok (.iconst 3, 1) := by decide +kernel
theorem dX7_next_291 : decode cX7_next 291 = .ok (.goto 4, 3) := by decide +kernel
theorem dX7_next_294 : decode cX7_next 294 = .ok (.iconst 4, 1) := by decide +kernel
theorem dX7_next_295 : decode cX7_next 295 = .ok (.putfield 38, 3) := by decide +kernel
theorem dX7_next_298 : decode cX7_next 298 = .ok (.return_, 1) := by decide +kernel
theorem dX7_see_0 : decode cX7_see 0 = .ok (.aload_n 0, 1) := by decide +kernel
theorem dX7_see_1 : decode cX7_see 1 = .ok (.getfield 28, 3) := by decide +kernel
theorem dX7_see_4 : decode cX7_see 4 = .ok (.aload_n 0, 1) := by decide +kernel
theorem dX7_see_5 : decode cX7_see 5 = .ok (.getfield 21, 3) := by decide +kernel
theorem dX7_see_8 : decode cX7_see 8 = .ok (.if_icmp .ge 19, 3) := by decide +kernel
theorem dX7_see_11 : decode cX7_see 11 = .ok (.aload_n 0, 1) := by decide +kernel
theorem dX7_see_12 : decode cX7_see 12 = .ok (.getfield 17, 3) := by decide +kernel
theorem dX7_see_15 : decode cX7_see 15 = .ok (.aload_n 0, 1) := by decide +kernel
theorem dX7_see_16 : decode cX7_see 16 = .ok (.getfield 28, 3) := by decide +kernel
theorem dX7_see_19 : decode cX7_see 19 = .ok (.baload, 1) := by decide +kernel
theorem dX7_see_20 : decode cX7_see 20 = .ok (.sipush 255, 3) := by decide +kernel
theorem dX7_see_23 : decode cX7_see 23 = .ok (.iand, 1) := by decide +kernel
theorem dX7_see_24 : decode cX7_see 24 = .ok (.goto 4, 3) := by decide +kernel
theorem dX7_see_27 : decode cX7_see 27 = .ok (.iconst (-1), 1) := by decide +kernel
theorem dX7_see_28 : decode cX7_see 28 = .ok (.ireturn, 1) := by decide +kernel
theorem dX7_rules_0 : decode cX7_rules 0 = .ok (.new 78, 3) := by decide +kernel
theorem dX7_rules_3 : decode cX7_rules 3 = .ok (.dup, 1) := by decide +kernel
theorem dX7_rules_4 : decode cX7_rules 4 = .ok (.iconst 4, 1) := by decide +kernel
theorem dX7_rules_5 : decode cX7_rules 5 = .ok (.invokespecial 80, 3) := by decide +kernel
theorem dX7_rules_8 : decode cX7_rules 8 = .ok (.astore_n 1, 1) := by decide +kernel
theorem dX7_rules_9 : decode cX7_rules 9 = .ok (.aload_n 0, 1) := by decide +kernel
theorem dX7_rules_10 : decode cX7_rules 10 = .ok (.getfield 38, 3) := by decide +kernel
theorem dX7_rules_13 : decode cX7_rules 13 = .ok (.ifCond .eq 60, 3) := by decide +kernel
theorem dX7_rules_16 : decode cX7_rules 16 = .ok (.aload_n 0, 1) := by decide +kernel
theorem dX7_rules_17 : decode cX7_rules 17 = .ok (.ldc 83, 2) := by decide +kernel
theorem dX7_rules_19 : decode cX7_rules 19 = .ok (.invokevirtual 85, 3) := by decide +kernel
theorem dX7_rules_22 : decode cX7_rules 22 = .ok (.ifCond .ne 17, 3) := by decide +kernel
theorem dX7_rules_25 : decode cX7_rules 25 = .ok (.aload_n 0, 1) := by decide +kernel
theorem dX7_rules_26 : decode cX7_rules 26 = .ok (.ldc 89, 2) := by decide +kernel
theorem dX7_rules_28 : decode cX7_rules 28 = .ok (.invokevirtual 91, 3) := by decide +kernel
theorem dX7_rules_31 : decode cX7_rules 31 = .ok (.ifCond .ne 8, 3) := by decide +kernel
theorem dX7_rules_34 : decode cX7_rules 34 = .ok (.aload_n 0, 1) := by decide +kernel
theorem dX7_rules_35 : decode cX7_rules 35 = .ok (.invokevirtual 94, 3) := by decide +kernel
theorem dX7_rules_38 : decode cX7_rules 38 = .ok (.athrow, 1) := by decide +kernel
theorem dX7_rules_39 : decode cX7_rules 39 = .ok (.aload_n 1, 1) := by decide +kernel
theorem dX7_rules_40 : decode cX7_rules 40 = .ok (.invokevirtual 98, 3) := by decide +kernel
theorem dX7_rules_43 : decode cX7_rules 43 = .ok (.bipush 10, 2) := by decide +kernel
theorem dX7_rules_45 : decode cX7_rules 45 = .ok (.if_icmp .ne 16, 3) := by decide +kernel
theorem dX7_rules_48 : decode cX7_rules 48 = .ok (.new 73, 3) := by decide +kernel
theorem dX7_rules_51 : decode cX7_rules 51 = .ok (.dup, 1) := by decide +kernel
theorem dX7_rules_52 : decode cX7_rules 52 = .ok (.iconst 2, 1) := by decide +kernel
theorem dX7_rules_53 : decode cX7_rules 53 = .ok (.aload_n 0, 1) := by decide +kernel
theorem dX7_rules_54 : decode cX7_rules 54 = .ok (.getfield 35, 3) := by decide +kernel
theorem dX7_rules_57 : decode cX7_rules 57 = .ok (.invokespecial 75, 3) := by decide +kernel
theorem dX7_rules_60 : decode cX7_rules 60 = .ok (.athrow, 1) := by decide +kernel
theorem dX7_rules_61 : decode cX7_rules 61 = .ok (.aload_n 1, 1) := by decide +kernel
theorem dX7_rules_62 : decode cX7_rules 62 = .ok (.aload_n 0, 1) := by decide +kernel
theorem dX7_rules_63 : decode cX7_rules 63 = .ok (.invokevirtual 100, 3) := by decide +kernel
theorem dX7_rules_66 : decode cX7_rules 66 = .ok (.invokevirtual 104, 3) := by decide +kernel
theorem dX7_rules_69 : decode cX7_rules 69 = .ok (.pop, 1) := by decide +kernel
theorem dX7_rules_70 : decode cX7_rules 70 = .ok (.goto (-61), 3) := by decide +kernel
theorem dX7_rules_73 : decode cX7_rules 73 = .ok (.aload_n 1, 1) := by decide +kernel
theorem dX7_rules_74 : decode cX7_rules 74 = .ok (.areturn, 1) := by decide +kernel
theorem dX7_isWord_0 : decode cX7_isWord 0 = .ok (.aload_n 0, 1) := by decide +kernel
theorem dX7_isWord_1 : decode cX7_isWord 1 = .ok (.getfield 38, 3) := by decide +kernel
theorem dX7_isWord_4 : decode cX7_isWord 4 = .ok (.iconst 1, 1) := by decide +kernel
theorem dX7_isWord_5 : decode cX7_isWord 5 = .ok (.if_icmp .ne 18, 3) := by decide +kernel
theorem dX7_isWord_8 : decode cX7_isWord 8 = .ok (.aload_n 0, 1) := by decide +kernel
theorem dX7_isWord_9 : decode cX7_isWord 9 = .ok (.getfield 11, 3) := by decide +kernel
theorem dX7_isWord_12 : decode cX7_isWord 12 = .ok (.aload_n 1, 1) := by decide +kernel
theorem dX7_isWord_13 : decode cX7_isWord 13 = .ok (.invokevirtual 60, 3) := by decide +kernel
theorem dX7_isWord_16 : decode cX7_isWord 16 = .ok (.ifCond .eq 7, 3) := by decide +kernel
theorem dX7_isWord_19 : decode cX7_isWord 19 = .ok (.iconst 1, 1) := by decide +kernel
theorem dX7_isWord_20 : decode cX7_isWord 20 = .ok (.goto 4, 3) := by decide +kernel
theorem dX7_isWord_23 : decode cX7_isWord 23 = .ok (.iconst 0, 1) := by decide +kernel
theorem dX7_isWord_24 : decode cX7_isWord 24 = .ok (.ireturn, 1) := by decide +kernel
theorem dX7_isOf_0 : decode cX7_isOf 0 = .ok (.aload_n 0, 1) := by decide +kernel
theorem dX7_isOf_1 : decode cX7_isOf 1 = .ok (.getfield 38, 3) := by decide +kernel
theorem dX7_isOf_4 : decode cX7_isOf 4 = .ok (.iconst 1, 1) := by decide +kernel
theorem dX7_isOf_5 : decode cX7_isOf 5 = .ok (.if_icmp .ne 41, 3) := by decide +kernel
theorem dX7_isOf_8 : decode cX7_isOf 8 = .ok (.aload_n 1, 1) := by decide +kernel
theorem dX7_isOf_9 : decode cX7_isOf 9 = .ok (.new 41, 3) := by decide +kernel
theorem dX7_isOf_12 : decode cX7_isOf 12 = .ok (.dup, 1) := by decide +kernel
theorem dX7_isOf_13 : decode cX7_isOf 13 = .ok (.invokespecial 43, 3) := by decide +kernel
theorem dX7_isOf_16 : decode cX7_isOf 16 = .ok (.ldc 64, 2) := by decide +kernel
theorem dX7_isOf_18 : decode cX7_isOf 18 = .ok (.invokevirtual 66, 3) := by decide +kernel
theorem dX7_isOf_21 : decode cX7_isOf 21 = .ok (.aload_n 0, 1) := by decide +kernel
theorem dX7_isOf_22 : decode cX7_isOf 22 = .ok (.getfield 11, 3) := by decide +kernel
theorem dX7_isOf_25 : decode cX7_isOf 25 = .ok (.invokevirtual 66, 3) := by decide +kernel
theorem dX7_isOf_28 : decode cX7_isOf 28 = .ok (.ldc 64, 2) := by decide +kernel
theorem dX7_isOf_30 : decode cX7_isOf 30 = .ok (.invokevirtual 66, 3) := by decide +kernel
theorem dX7_isOf_33 : decode cX7_isOf 33 = .ok (.invokevirtual 48, 3) := by decide +kernel
theorem dX7_isOf_36 : decode cX7_isOf 36 = .ok (.invokevirtual 69, 3) := by decide +kernel
theorem dX7_isOf_39 : decode cX7_isOf 39 = .ok (.ifCond .lt 7, 3) := by decide +kernel
theorem dX7_isOf_42 : decode cX7_isOf 42 = .ok (.iconst 1, 1) := by decide +kernel
theorem dX7_isOf_43 : decode cX7_isOf 43 = .ok (.goto 4, 3) := by decide +kernel
theorem dX7_isOf_46 : decode cX7_isOf 46 = .ok (.iconst 0, 1) := by decide +kernel
theorem dX7_isOf_47 : decode cX7_isOf 47 = .ok (.ireturn, 1) := by decide +kernel
theorem dX7_form_0 : decode cX7_form 0 = .ok (.new 73, 3) := by decide +kernel
theorem dX7_form_3 : decode cX7_form 3 = .ok (.dup, 1) := by decide +kernel
theorem dX7_form_4 : decode cX7_form 4 = .ok (.iconst 1, 1) := by decide +kernel
theorem dX7_form_5 : decode cX7_form 5 = .ok (.aload_n 0, 1) := by decide +kernel
theorem dX7_form_6 : decode cX7_form 6 = .ok (.getfield 35, 3) := by decide +kernel
theorem dX7_form_9 : decode cX7_form 9 = .ok (.invokespecial 75, 3) := by decide +kernel
theorem dX7_form_12 : decode cX7_form 12 = .ok (.areturn, 1) := by decide +kernel
theorem dX7_rule_0 : decode cX7_rule 0 = .ok (.new 78, 3) := by decide +kernel
theorem dX7_rule_3 : decode cX7_rule 3 = .ok (.dup, 1) := by decide +kernel
theorem dX7_rule_4 : decode cX7_rule 4 = .ok (.iconst 2, 1) := by decide +kernel
theorem dX7_rule_5 : decode cX7_rule 5 = .ok (.invokespecial 80, 3) := by decide +kernel
theorem dX7_rule_8 : decode cX7_rule 8 = .ok (.astore_n 1, 1) := by decide +kernel
theorem dX7_rule_9 : decode cX7_rule 9 = .ok (.aload_n 0, 1) := by decide +kernel
theorem dX7_rule_10 : decode cX7_rule 10 = .ok (.ldc 83, 2) := by decide +kernel
theorem dX7_rule_12 : decode cX7_rule 12 = .ok (.invokevirtual 85, 3) := by decide +kernel
theorem dX7_rule_15 : decode cX7_rule 15 = .ok (.ifCond .eq 47, 3) := by decide +kernel
theorem dX7_rule_18 : decode cX7_rule 18 = .ok (.aload_n 0, 1) := by decide +kernel
theorem dX7_rule_19 : decode cX7_rule 19 = .ok (.invokevirtual 25, 3) := by decide +kernel
theorem dX7_rule_22 : decode cX7_rule 22 = .ok (.aload_n 1, 1) := by decide +kernel
theorem dX7_rule_23 : decode cX7_rule 23 = .ok (.aload_n 0, 1) := by decide +kernel
theorem dX7_rule_24 : decode cX7_rule 24 = .ok (.aload_n 1, 1) := by decide +kernel
theorem dX7_rule_25 : decode cX7_rule 25 = .ok (.invokevirtual 98, 3) := by decide +kernel
theorem dX7_rule_28 : decode cX7_rule 28 = .ok (.invokevirtual 107, 3) := by decide +kernel
theorem dX7_rule_31 : decode cX7_rule 31 = .ok (.invokevirtual 104, 3) := by decide +kernel
theorem dX7_rule_34 : decode cX7_rule 34 = .ok (.pop, 1) := by decide +kernel
theorem dX7_rule_35 : decode cX7_rule 35 = .ok (.aload_n 0, 1) := by decide +kernel
theorem dX7_rule_36 : decode cX7_rule 36 = .ok (.ldc 111, 2) := by decide +kernel
theorem dX7_rule_38 : decode cX7_rule 38 = .ok (.invokevirtual 85, 3) := by decide +kernel
theorem dX7_rule_41 : decode cX7_rule 41 = .ok (.ifCond .ne (-23), 3) := by decide +kernel
theorem dX7_rule_44 : decode cX7_rule 44 = .ok (.aload_n 0, 1) := by decide +kernel
theorem dX7_rule_45 : decode cX7_rule 45 = .ok (.bipush 58, 2) := by decide +kernel
theorem dX7_rule_47 : decode cX7_rule 47 = .ok (.invokevirtual 113, 3) := by decide +kernel
theorem dX7_rule_50 : decode cX7_rule 50 = .ok (.ifCond .ne 8, 3) := by decide +kernel
theorem dX7_rule_53 : decode cX7_rule 53 = .ok (.aload_n 0, 1) := by decide +kernel
theorem dX7_rule_54 : decode cX7_rule 54 = .ok (.invokevirtual 94, 3) := by decide +kernel
theorem dX7_rule_57 : decode cX7_rule 57 = .ok (.athrow, 1) := by decide +kernel
theorem dX7_rule_58 : decode cX7_rule 58 = .ok (.aload_n 0, 1) := by decide +kernel
theorem dX7_rule_59 : decode cX7_rule 59 = .ok (.invokevirtual 25, 3) := by decide +kernel
theorem dX7_rule_62 : decode cX7_rule 62 = .ok (.aload_n 0, 1) := by decide +kernel
theorem dX7_rule_63 : decode cX7_rule 63 = .ok (.invokevirtual 117, 3) := by decide +kernel
theorem dX7_rule_66 : decode cX7_rule 66 = .ok (.astore_n 2, 1) := by decide +kernel
theorem dX7_rule_67 : decode cX7_rule 67 = .ok (.iconst 0, 1) := by decide +kernel
theorem dX7_rule_68 : decode cX7_rule 68 = .ok (.istore_n 3, 1) := by decide +kernel
theorem dX7_rule_69 : decode cX7_rule 69 = .ok (.iload_n 3, 1) := by decide +kernel
theorem dX7_rule_70 : decode cX7_rule 70 = .ok (.aload_n 1, 1) := by decide +kernel
theorem dX7_rule_71 : decode cX7_rule 71 = .ok (.invokevirtual 98, 3) := by decide +kernel
theorem dX7_rule_74 : decode cX7_rule 74 = .ok (.if_icmp .ge 25, 3) := by decide +kernel
theorem dX7_rule_77 : decode cX7_rule 77 = .ok (.aload_n 2, 1) := by decide +kernel
theorem dX7_rule_78 : decode cX7_rule 78 = .ok (.getfield 120, 3) := by decide +kernel
theorem dX7_rule_81 : decode cX7_rule 81 = .ok (.aload_n 1, 1) := by decide +kernel
theorem dX7_rule_82 : decode cX7_rule 82 = .ok (.iload_n 3, 1) := by decide +kernel
theorem dX7_rule_83 : decode cX7_rule 83 = .ok (.invokevirtual 126, 3) := by decide +kernel
theorem dX7_rule_86 : decode cX7_rule 86 = .ok (.checkcast 130, 3) := by decide +kernel
theorem dX7_rule_89 : decode cX7_rule 89 = .ok (.invokevirtual 104, 3) := by decide +kernel
theorem dX7_rule_92 : decode cX7_rule 92 = .ok (.pop, 1) := by decide +kernel
theorem dX7_rule_93 : decode cX7_rule 93 = .ok (.iinc 3 1, 3) := by decide +kernel
theorem dX7_rule_96 : decode cX7_rule 96 = .ok (.goto (-27), 3) := by decide +kernel
theorem dX7_rule_99 : decode cX7_rule 99 = .ok (.aload_n 0, 1) := by decide +kernel
theorem dX7_rule_100 : decode cX7_rule 100 = .ok (.bipush 59, 2) := by decide +kernel
theorem dX7_rule_102 : decode cX7_rule 102 = .ok (.invokevirtual 113, 3) := by decide +kernel
theorem dX7_rule_105 : decode cX7_rule 105 = .ok (.ifCond .ne 8, 3) := by decide +kernel
theorem dX7_rule_108 : decode cX7_rule 108 = .ok (.aload_n 0, 1) := by decide +kernel
theorem dX7_rule_109 : decode cX7_rule 109 = .ok (.invokevirtual 94, 3) := by decide +kernel
theorem dX7_rule_112 : decode cX7_rule 112 = .ok (.athrow, 1) := by decide +kernel
theorem dX7_rule_113 : decode cX7_rule 113 = .ok (.aload_n 0, 1) := by decide +kernel
theorem dX7_rule_114 : decode cX7_rule 114 = .ok (.invokevirtual 25, 3) := by decide +kernel
theorem dX7_rule_117 : decode cX7_rule 117 = .ok (.aload_n 2, 1) := by decide +kernel
theorem dX7_rule_118 : decode cX7_rule 118 = .ok (.areturn, 1) := by decide +kernel
theorem dX7_condition_0 : decode cX7_condition 0 = .ok (.aload_n 0, 1) := by decide +kernel
theorem dX7_condition_1 : decode cX7_condition 1 = .ok (.ldc 132, 2) := by decide +kernel
theorem dX7_condition_3 : decode cX7_condition 3 = .ok (.invokevirtual 91, 3) := by decide +kernel
theorem dX7_condition_6 : decode cX7_condition 6 = .ok (.ifCond .ne 8, 3) := by decide +kernel
theorem dX7_condition_9 : decode cX7_condition 9 = .ok (.aload_n 0, 1) := by decide +kernel
theorem dX7_condition_10 : decode cX7_condition 10 = .ok (.invokevirtual 94, 3) := by decide +kernel
theorem dX7_condition_13 : decode cX7_condition 13 = .ok (.athrow, 1) := by decide +kernel
theorem dX7_condition_14 : decode cX7_condition 14 = .ok (.iload_n 1, 1) := by decide +kernel
theorem dX7_condition_15 : decode cX7_condition 15 = .ok (.iconst 3, 1) := by decide +kernel
theorem dX7_condition_16 : decode cX7_condition 16 = .ok (.if_icmp .ne 16, 3) := by decide +kernel
theorem dX7_condition_19 : decode cX7_condition 19 = .ok (.new 73, 3) := by decide +kernel
theorem dX7_condition_22 : decode cX7_condition 22 = .ok (.dup, 1) := by decide +kernel
theorem dX7_condition_23 : decode cX7_condition 23 = .ok (.iconst 2, 1) := by decide +kernel
theorem dX7_condition_24 : decode cX7_condition 24 = .ok (.aload_n 0, 1) := by decide +kernel
theorem dX7_condition_25 : decode cX7_condition 25 = .ok (.getfield 35, 3) := by decide +kernel
theorem dX7_condition_28 : decode cX7_condition 28 = .ok (.invokespecial 75, 3) := by decide +kernel
theorem dX7_condition_31 : decode cX7_condition 31 = .ok (.athrow, 1) := by decide +kernel
theorem dX7_condition_32 : decode cX7_condition 32 = .ok (.ldc 132, 2) := by decide +kernel
theorem dX7_condition_34 : decode cX7_condition 34 = .ok (.new 41, 3) := by decide +kernel
theorem dX7_condition_37 : decode cX7_condition 37 = .ok (.dup, 1) := by decide +kernel
theorem dX7_condition_38 : decode cX7_condition 38 = .ok (.invokespecial 43, 3) := by decide +kernel
theorem dX7_condition_41 : decode cX7_condition 41 = .ok (.ldc 64, 2) := by decide +kernel
theorem dX7_condition_43 : decode cX7_condition 43 = .ok (.invokevirtual 66, 3) := by decide +kernel
theorem dX7_condition_46 : decode cX7_condition 46 = .ok (.aload_n 0, 1) := by decide +kernel
theorem dX7_condition_47 : decode cX7_condition 47 = .ok (.getfield 11, 3) := by decide +kernel
theorem dX7_condition_50 : decode cX7_condition 50 = .ok (.invokevirtual 66, 3) := by decide +kernel
theorem dX7_condition_53 : decode cX7_condition 53 = .ok (.ldc 64, 2) := by decide +kernel
theorem dX7_condition_55 : decode cX7_condition 55 = .ok (.invokevirtual 66, 3) := by decide +kernel
theorem dX7_condition_58 : decode cX7_condition 58 = .ok (.invokevirtual 48, 3) := by decide +kernel
theorem dX7_condition_61 : decode cX7_condition 61 = .ok (.invokevirtual 69, 3) := by decide +kernel
theorem dX7_condition_64 : decode cX7_condition 64 = .ok (.istore_n 2, 1) := by decide +kernel
theorem dX7_condition_65 : decode cX7_condition 65 = .ok (.iconst 0, 1) := by decide +kernel
theorem dX7_condition_66 : decode cX7_condition 66 = .ok (.istore_n 3, 1) := by decide +kernel
theorem dX7_condition_67 : decode cX7_condition 67 = .ok (.iconst 1, 1) := by decide +kernel
theorem dX7_condition_68 : decode cX7_condition 68 = .ok (.istore 4, 2) := by decide +kernel
theorem dX7_condition_70 : decode cX7_condition 70 = .ok (.iload 4, 2) := by decide +kernel
theorem dX7_condition_72 : decode cX7_condition 72 = .ok (.iload_n 2, 1) := by decide +kernel
theorem dX7_condition_73 : decode cX7_condition 73 = .ok (.if_icmp .gt 29, 3) := by decide +kernel
theorem dX7_condition_76 : decode cX7_condition 76 = .ok (.iload_n 3, 1) := by decide +kernel
theorem dX7_condition_77 : decode cX7_condition 77 = .ok (.ldc 132, 2) := by decide +kernel
theorem dX7_condition_79 : decode cX7_condition 79 = .ok (.iload 4, 2) := by decide +kernel
theorem dX7_condition_81 : decode cX7_condition 81 = .ok (.invokevirtual 134, 3) := by decide +kernel
theorem dX7_condition_84 : decode cX7_condition 84 = .ok (.bipush 32, 2) := by decide +kernel
theorem dX7_condition_86 : decode cX7_condition 86 = .ok (.if_icmp .ne 7, 3) := by decide +kernel
theorem dX7_condition_89 : decode cX7_condition 89 = .ok (.iconst 1, 1) := by decide +kernel
theorem dX7_condition_90 : decode cX7_condition 90 = .ok (.goto 4, 3) := by decide +kernel
theorem dX7_condition_93 : decode cX7_condition 93 = .ok (.iconst 0, 1) := by decide +kernel
theorem dX7_condition_94 : decode cX7_condition 94 = .ok (.iadd, 1) := by decide +kernel
theorem dX7_condition_95 : decode cX7_condition 95 = .ok (.istore_n 3, 1) := by decide +kernel
theorem dX7_condition_96 : decode cX7_condition 96 = .ok (.iinc 4 1, 3) := by decide +kernel
theorem dX7_condition_99 : decode cX7_condition 99 = .ok (.goto (-29), 3) := by decide +kernel
theorem dX7_condition_102 : decode cX7_condition 102 = .ok (.aload_n 0, 1) := by decide +kernel
theorem dX7_condition_103 : decode cX7_condition 103 = .ok (.invokevirtual 25, 3) := by decide +kernel
theorem dX7_condition_106 : decode cX7_condition 106 = .ok (.aload_n 0, 1) := by decide +kernel
theorem dX7_condition_107 : decode cX7_condition 107 = .ok (.bipush 60, 2) := by decide +kernel
theorem dX7_condition_109 : decode cX7_condition 109 = .ok (.invokevirtual 113, 3) := by decide +kernel
theorem dX7_condition_112 : decode cX7_condition 112 = .ok (.ifCond .ne 26, 3) := by decide +kernel
theorem dX7_condition_115 : decode cX7_condition 115 = .ok (.aload_n 0, 1) := by decide +kernel
theorem dX7_condition_116 : decode cX7_condition 116 = .ok (.bipush 61, 2) := by decide +kernel
theorem dX7_condition_118 : decode cX7_condition 118 = .ok (.invokevirtual 113, 3) := by decide +kernel
theorem dX7_condition_121 : decode cX7_condition 121 = .ok (.ifCond .ne 17, 3) := by decide +kernel
theorem dX7_condition_124 : decode cX7_condition 124 = .ok (.aload_n 0, 1) := by decide +kernel
theorem dX7_condition_125 : decode cX7_condition 125 = .ok (.bipush 62, 2) := by decide +kernel
theorem dX7_condition_127 : decode cX7_condition 127 = .ok (.invokevirtual 113, 3) := by decide +kernel
theorem dX7_condition_130 : decode cX7_condition 130 = .ok (.ifCond .ne 8, 3) := by decide +kernel
theorem dX7_condition_133 : decode cX7_condition 133 = .ok (.aload_n 0, 1) := by decide +kernel
theorem dX7_condition_134 : decode cX7_condition 134 = .ok (.invokevirtual 94, 3) := by decide +kernel
theorem dX7_condition_137 : decode cX7_condition 137 = .ok (.athrow, 1) := by decide +kernel
theorem dX7_condition_138 : decode cX7_condition 138 = .ok (.aload_n 0, 1) := by decide +kernel
theorem dX7_condition_139 : decode cX7_condition 139 = .ok (.getfield 57, 3) := by decide +kernel
theorem dX7_condition_142 : decode cX7_condition 142 = .ok (.istore 4, 2) := by decide +kernel
theorem dX7_condition_144 : decode cX7_condition 144 = .ok (.aload_n 0, 1) := by decide +kernel
theorem dX7_condition_145 : decode cX7_condition 145 = .ok (.invokevirtual 25, 3) := by decide +kernel
theorem dX7_condition_148 : decode cX7_condition 148 = .ok (.new 138, 3) := by decide +kernel
theorem dX7_condition_151 : decode cX7_condition 151 = .ok (.dup, 1) := by decide +kernel
theorem dX7_condition_152 : decode cX7_condition 152 = .ok (.iload_n 3, 1) := by decide +kernel
theorem dX7_condition_153 : decode cX7_condition 153 = .ok (.iload 4, 2) := by decide +kernel
theorem dX7_condition_155 : decode cX7_condition 155 = .ok (.aload_n 0, 1) := by decide +kernel
theorem dX7_condition_156 : decode cX7_condition 156 = .ok (.invokevirtual 140, 3) := by decide +kernel
theorem dX7_condition_159 : decode cX7_condition 159 = .ok (.invokespecial 143, 3) := by decide +kernel
theorem dX7_condition_162 : decode cX7_condition 162 = .ok (.areturn, 1) := by decide +kernel
theorem dX7_is_0 : decode cX7_is 0 = .ok (.aload_n 0, 1) := by decide +kernel
theorem dX7_is_1 : decode cX7_is 1 = .ok (.getfield 38, 3) := by decide +kernel
theorem dX7_is_4 : decode cX7_is 4 = .ok (.iconst 3, 1) := by decide +kernel
theorem dX7_is_5 : decode cX7_is 5 = .ok (.if_icmp .ne 15, 3) := by decide +kernel
theorem dX7_is_8 : decode cX7_is 8 = .ok (.aload_n 0, 1) := by decide +kernel
theorem dX7_is_9 : decode cX7_is 9 = .ok (.getfield 57, 3) := by decide +kernel
theorem dX7_is_12 : decode cX7_is 12 = .ok (.iload_n 1, 1) := by decide +kernel
theorem dX7_is_13 : decode cX7_is 13 = .ok (.if_icmp .ne 7, 3) := by decide +kernel
theorem dX7_is_16 : decode cX7_is 16 = .ok (.iconst 1, 1) := by decide +kernel
theorem dX7_is_17 : decode cX7_is 17 = .ok (.goto 4, 3) := by decide +kernel
theorem dX7_is_20 : decode cX7_is 20 = .ok (.iconst 0, 1) := by decide +kernel
theorem dX7_is_21 : decode cX7_is 21 = .ok (.ireturn, 1) := by decide +kernel
theorem dX7_number_0 : decode cX7_number 0 = .ok (.aload_n 0, 1) := by decide +kernel
theorem dX7_number_1 : decode cX7_number 1 = .ok (.getfield 38, 3) := by decide +kernel
theorem dX7_number_4 : decode cX7_number 4 = .ok (.iconst 2, 1) := by decide +kernel
theorem dX7_number_5 : decode cX7_number 5 = .ok (.if_icmp .eq 8, 3) := by decide +kernel
theorem dX7_number_8 : decode cX7_number 8 = .ok (.aload_n 0, 1) := by decide +kernel
theorem dX7_number_9 : decode cX7_number 9 = .ok (.invokevirtual 94, 3) := by decide +kernel
theorem dX7_number_12 : decode cX7_number 12 = .ok (.athrow, 1) := by decide +kernel
theorem dX7_number_13 : decode cX7_number 13 = .ok (.aload_n 0, 1) := by decide +kernel
theorem dX7_number_14 : decode cX7_number 14 = .ok (.getfield 57, 3) := by decide +kernel
theorem dX7_number_17 : decode cX7_number 17 = .ok (.istore_n 1, 1) := by decide +kernel
theorem dX7_number_18 : decode cX7_number 18 = .ok (.aload_n 0, 1) := by decide +kernel
theorem dX7_number_19 : decode cX7_number 19 = .ok (.invokevirtual 25, 3) := by decide +kernel
theorem dX7_number_22 : decode cX7_number 22 = .ok (.iload_n 1, 1) := by decide +kernel
theorem dX7_number_23 : decode cX7_number 23 = .ok (.ireturn, 1) := by decide +kernel
theorem dX7_act_0 : decode cX7_act 0 = .ok (.aload_n 0, 1) := by decide +kernel
theorem dX7_act_1 : decode cX7_act 1 = .ok (.ldc 89, 2) := by decide +kernel
theorem dX7_act_3 : decode cX7_act 3 = .ok (.invokevirtual 91, 3) := by decide +kernel
theorem dX7_act_6 : decode cX7_act 6 = .ok (.ifCond .ne 8, 3) := by decide +kernel
theorem dX7_act_9 : decode cX7_act 9 = .ok (.aload_n 0, 1) := by decide +kernel
theorem dX7_act_10 : decode cX7_act 10 = .ok (.invokevirtual 94, 3) := by decide +kernel
theorem dX7_act_13 : decode cX7_act 13 = .ok (.athrow, 1) := by decide +kernel
theorem dX7_act_14 : decode cX7_act 14 = .ok (.aload_n 0, 1) := by decide +kernel
theorem dX7_act_15 : decode cX7_act 15 = .ok (.getfield 11, 3) := by decide +kernel
theorem dX7_act_18 : decode cX7_act 18 = .ok (.astore_n 1, 1) := by decide +kernel
theorem dX7_act_19 : decode cX7_act 19 = .ok (.aload_n 0, 1) := by decide +kernel
theorem dX7_act_20 : decode cX7_act 20 = .ok (.invokevirtual 25, 3) := by decide +kernel
theorem dX7_act_23 : decode cX7_act 23 = .ok (.aload_n 1, 1) := by decide +kernel
theorem dX7_act_24 : decode cX7_act 24 = .ok (.astore_n 2, 1) := by decide +kernel
theorem dX7_act_25 : decode cX7_act 25 = .ok (.iconst (-1), 1) := by decide +kernel
theorem dX7_act_26 : decode cX7_act 26 = .ok (.istore_n 3, 1) := by decide +kernel
theorem dX7_act_27 : decode cX7_act 27 = .ok (.aload_n 2, 1) := by decide +kernel
theorem dX7_act_28 : decode cX7_act 28 = .ok (.invokevirtual 146, 3) := by decide +kernel
theorem dX7_act_31 : decode cX7_act 31 = .ok (.lookupswitch 116 #[(3059529, 91), (3641989, 105), (106931267, 49), (108386723, 77), (110339814, 63)], 49) := by decide +kernel
theorem dX7_act_80 : decode cX7_act 80 = .ok (.aload_n 2, 1) := by decide +kernel
theorem dX7_act_81 : decode cX7_act 81 = .ok (.ldc 149, 2) := by decide +kernel
theorem dX7_act_83 : decode cX7_act 83 = .ok (.invokevirtual 60, 3) := by decide +kernel
theorem dX7_act_86 : decode cX7_act 86 = .ok (.ifCond .eq 61, 3) := by decide +kernel
theorem dX7_act_89 : decode cX7_act 89 = .ok (.iconst 0, 1) := by decide +kernel
theorem dX7_act_90 : decode cX7_act 90 = .ok (.istore_n 3, 1) := by decide +kernel
theorem dX7_act_91 : decode cX7_act 91 = .ok (.goto 56, 3) := by decide +kernel
theorem dX7_act_94 : decode cX7_act 94 = .ok (.aload_n 2, 1) := by decide +kernel
theorem dX7_act_95 : decode cX7_act 95 = .ok (.ldc 151, 2) := by decide +kernel
theorem dX7_act_97 : decode cX7_act 97 = .ok (.invokevirtual 60, 3) := by decide +kernel
theorem dX7_act_100 : decode cX7_act 100 = .ok (.ifCond .eq 47, 3) := by decide +kernel
theorem dX7_act_103 : decode cX7_act 103 = .ok (.iconst 1, 1) := by decide +kernel
theorem dX7_act_104 : decode cX7_act 104 = .ok (.istore_n 3, 1) := by decide +kernel
theorem dX7_act_105 : decode cX7_act 105 = .ok (.goto 42, 3) := by decide +kernel
theorem dX7_act_108 : decode cX7_act 108 = .ok (.aload_n 2, 1) := by decide +kernel
theorem dX7_act_109 : decode cX7_act 109 = .ok (.ldc 153, 2) := by decide +kernel
theorem dX7_act_111 : decode cX7_act 111 = .ok (.invokevirtual 60, 3) := by decide +kernel
theorem dX7_act_114 : decode cX7_act 114 = .ok (.ifCond .eq 33, 3) := by decide +kernel
theorem dX7_act_117 : decode cX7_act 117 = .ok (.iconst 2, 1) := by decide +kernel
theorem dX7_act_118 : decode cX7_act 118 = .ok (.istore_n 3, 1) := by decide +kernel
theorem dX7_act_119 : decode cX7_act 119 = .ok (.goto 28, 3) := by decide +kernel
theorem dX7_act_122 : decode cX7_act 122 = .ok (.aload_n 2, 1) := by decide +kernel
theorem dX7_act_123 : decode cX7_act 123 = .ok (.ldc 155, 2) := by decide +kernel
theorem dX7_act_125 : decode cX7_act 125 = .ok (.invokevirtual 60, 3) := by decide +kernel
theorem dX7_act_128 : decode cX7_act 128 = .ok (.ifCond .eq 19, 3) := by decide +kernel
theorem dX7_act_131 : decode cX7_act 131 = .ok (.iconst 3, 1) := by decide +kernel
theorem dX7_act_132 : decode cX7_act 132 = .ok (.istore_n 3, 1) := by decide +kernel
theorem dX7_act_133 : decode cX7_act 133 = .ok (.goto 14, 3) := by decide +kernel
theorem dX7_act_136 : decode cX7_act 136 = .ok (.aload_n 2, 1) := by decide +kernel
theorem dX7_act_137 : decode cX7_act 137 = .ok (.ldc 157, 2) := by decide +kernel
theorem dX7_act_139 : decode cX7_act 139 = .ok (.invokevirtual 60, 3) := by decide +kernel
theorem dX7_act_142 : decode cX7_act 142 = .ok (.ifCond .eq 5, 3) := by decide +kernel
theorem dX7_act_145 : decode cX7_act 145 = .ok (.iconst 4, 1) := by decide +kernel
theorem dX7_act_146 : decode cX7_act 146 = .ok (.istore_n 3, 1) := by decide +kernel
theorem dX7_act_147 : decode cX7_act 147 = .ok (.iload_n 3, 1) := by decide +kernel
theorem dX7_act_148 : decode cX7_act 148 = .ok (.tableswitch 76 0 4 #[36, 44, 52, 60, 68], 36) := by decide +kernel
theorem dX7_act_184 : decode cX7_act 184 = .ok (.new 159, 3) := by decide +kernel
theorem dX7_act_187 : decode cX7_act 187 = .ok (.dup, 1) := by decide +kernel
theorem dX7_act_188 : decode cX7_act 188 = .ok (.invokespecial 161, 3) := by decide +kernel
theorem dX7_act_191 : decode cX7_act 191 = .ok (.areturn, 1) := by decide +kernel
theorem dX7_act_192 : decode cX7_act 192 = .ok (.new 162, 3) := by decide +kernel
theorem dX7_act_195 : decode cX7_act 195 = .ok (.dup, 1) := by decide +kernel
theorem dX7_act_196 : decode cX7_act 196 = .ok (.invokespecial 164, 3) := by decide +kernel
theorem dX7_act_199 : decode cX7_act 199 = .ok (.areturn, 1) := by decide +kernel
theorem dX7_act_200 : decode cX7_act 200 = .ok (.new 165, 3) := by decide +kernel
theorem dX7_act_203 : decode cX7_act 203 = .ok (.dup, 1) := by decide +kernel
theorem dX7_act_204 : decode cX7_act 204 = .ok (.invokespecial 167, 3) := by decide +kernel
theorem dX7_act_207 : decode cX7_act 207 = .ok (.areturn, 1) := by decide +kernel
theorem dX7_act_208 : decode cX7_act 208 = .ok (.new 168, 3) := by decide +kernel
theorem dX7_act_211 : decode cX7_act 211 = .ok (.dup, 1) := by decide +kernel
theorem dX7_act_212 : decode cX7_act 212 = .ok (.invokespecial 170, 3) := by decide +kernel
theorem dX7_act_215 : decode cX7_act 215 = .ok (.areturn, 1) := by decide +kernel
theorem dX7_act_216 : decode cX7_act 216 = .ok (.new 171, 3) := by decide +kernel
theorem dX7_act_219 : decode cX7_act 219 = .ok (.dup, 1) := by decide +kernel
theorem dX7_act_220 : decode cX7_act 220 = .ok (.invokespecial 173, 3) := by decide +kernel
theorem dX7_act_223 : decode cX7_act 223 = .ok (.areturn, 1) := by decide +kernel
theorem dX7_act_224 : decode cX7_act 224 = .ok (.new 174, 3) := by decide +kernel
theorem dX7_act_227 : decode cX7_act 227 = .ok (.dup, 1) := by decide +kernel
theorem dX7_act_228 : decode cX7_act 228 = .ok (.aload_n 0, 1) := by decide +kernel
theorem dX7_act_229 : decode cX7_act 229 = .ok (.invokevirtual 140, 3) := by decide +kernel
theorem dX7_act_232 : decode cX7_act 232 = .ok (.invokespecial 176, 3) := by decide +kernel
theorem dX7_act_235 : decode cX7_act 235 = .ok (.areturn, 1) := by decide +kernel
theorem dX8_init_0 : decode cX8_init 0 = .ok (.aload_n 0, 1) := by decide +kernel
theorem dX8_init_1 : decode cX8_init 1 = .ok (.aconst_null, 1) := by decide +kernel
theorem dX8_init_2 : decode cX8_init 2 = .ok (.aconst_null, 1) := by decide +kernel
theorem dX8_init_3 : decode cX8_init 3 = .ok (.iconst 0, 1) := by decide +kernel
theorem dX8_init_4 : decode cX8_init 4 = .ok (.iconst 0, 1) := by decide +kernel
theorem dX8_init_5 : decode cX8_init 5 = .ok (.invokespecial 1, 3) := by decide +kernel
theorem dX8_init_8 : decode cX8_init 8 = .ok (.aload_n 0, 1) := by decide +kernel
theorem dX8_init_9 : decode cX8_init 9 = .ok (.iload_n 1, 1) := by decide +kernel
theorem dX8_init_10 : decode cX8_init 10 = .ok (.putfield 7, 3) := by decide +kernel
theorem dX8_init_13 : decode cX8_init 13 = .ok (.aload_n 0, 1) := by decide +kernel
theorem dX8_init_14 : decode cX8_init 14 = .ok (.iload_n 2, 1) := by decide +kernel
theorem dX8_init_15 : decode cX8_init 15 = .ok (.putfield 13, 3) := by decide +kernel
theorem dX8_init_18 : decode cX8_init 18 = .ok (.return_, 1) := by decide +kernel
