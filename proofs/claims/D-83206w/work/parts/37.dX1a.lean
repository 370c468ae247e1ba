set_option maxRecDepth 100000
theorem dX1_init_0 : decode cX1_init 0 = .ok (.aload_n 0, 1) := by decide +kernel
theorem dX1_init_1 : decode cX1_init 1 = .ok (.invokespecial 1, 3) := by decide +kernel
theorem dX1_init_4 : decode cX1_init 4 = .ok (.aload_n 0, 1) := by decide +kernel
theorem dX1_init_5 : decode cX1_init 5 = .ok (.bipush 24, 2) := by decide +kernel
theorem dX1_init_7 : decode cX1_init 7 = .ok (.newarray .int, 2) := by decide +kernel
theorem dX1_init_9 : decode cX1_init 9 = .ok (.putfield 7, 3) := by decide +kernel
theorem dX1_init_12 : decode cX1_init 12 = .ok (.aload_n 0, 1) := by decide +kernel
theorem dX1_init_13 : decode cX1_init 13 = .ok (.bipush 20, 2) := by decide +kernel
theorem dX1_init_15 : decode cX1_init 15 = .ok (.newarray .int, 2) := by decide +kernel
theorem dX1_init_17 : decode cX1_init 17 = .ok (.putfield 13, 3) := by decide +kernel
theorem dX1_init_20 : decode cX1_init 20 = .ok (.aload_n 0, 1) := by decide +kernel
theorem dX1_init_21 : decode cX1_init 21 = .ok (.iconst 3, 1) := by decide +kernel
theorem dX1_init_22 : decode cX1_init 22 = .ok (.anewarray 16, 3) := by decide +kernel
theorem dX1_init_25 : decode cX1_init 25 = .ok (.putfield 18, 3) := by decide +kernel
theorem dX1_init_28 : decode cX1_init 28 = .ok (.aload_n 0, 1) := by decide +kernel
theorem dX1_init_29 : decode cX1_init 29 = .ok (.new 22, 3) := by decide +kernel
theorem dX1_init_32 : decode cX1_init 32 = .ok (.dup, 1) := by decide +kernel
theorem dX1_init_33 : decode cX1_init 33 = .ok (.invokespecial 24, 3) := by decide +kernel
theorem dX1_init_36 : decode cX1_init 36 = .ok (.putfield 25, 3) := by decide +kernel
theorem dX1_init_39 : decode cX1_init 39 = .ok (.aload_n 0, 1) := by decide +kernel
theorem dX1_init_40 : decode cX1_init 40 = .ok (.new 22, 3) := by decide +kernel
theorem dX1_init_43 : decode cX1_init 43 = .ok (.dup, 1) := by decide +kernel
theorem dX1_init_44 : decode cX1_init 44 = .ok (.invokespecial 24, 3) := by decide +kernel
theorem dX1_init_47 : decode cX1_init 47 = .ok (.putfield 29, 3) := by decide +kernel
theorem dX1_init_50 : decode cX1_init 50 = .ok (.aload_n 0, 1) := by decide +kernel
theorem dX1_init_51 : decode cX1_init 51 = .ok (.new 22, 3) := by decide +kernel
theorem dX1_init_54 : decode cX1_init 54 = .ok (.dup, 1) := by decide +kernel
theorem dX1_init_55 : decode cX1_init 55 = .ok (.invokespecial 24, 3) := by decide +kernel
theorem dX1_init_58 : decode cX1_init 58 = .ok (.putfield 32, 3) := by decide +kernel
theorem dX1_init_61 : decode cX1_init 61 = .ok (.aload_n 0, 1) := by decide +kernel
theorem dX1_init_62 : decode cX1_init 62 = .ok (.new 22, 3) := by decide +kernel
theorem dX1_init_65 : decode cX1_init 65 = .ok (.dup, 1) := by decide +kernel
theorem dX1_init_66 : decode cX1_init 66 = .ok (.invokespecial 24, 3) := by decide +kernel
theorem dX1_init_69 : decode cX1_init 69 = .ok (.putfield 35, 3) := by decide +kernel
theorem dX1_init_72 : decode cX1_init 72 = .ok (.aload_n 0, 1) := by decide +kernel
theorem dX1_init_73 : decode cX1_init 73 = .ok (.sipush 300, 3) := by decide +kernel
theorem dX1_init_76 : decode cX1_init 76 = .ok (.newarray .byte, 2) := by decide +kernel
theorem dX1_init_78 : decode cX1_init 78 = .ok (.putfield 38, 3) := by decide +kernel
theorem dX1_init_81 : decode cX1_init 81 = .ok (.aload_n 0, 1) := by decide +kernel
theorem dX1_init_82 : decode cX1_init 82 = .ok (.iconst (-1), 1) := by decide +kernel
theorem dX1_init_83 : decode cX1_init 83 = .ok (.putfield 41, 3) := by decide +kernel
theorem dX1_init_86 : decode cX1_init 86 = .ok (.aload_n 0, 1) := by decide +kernel
theorem dX1_init_87 : decode cX1_init 87 = .ok (.sipush 1000, 3) := by decide +kernel
theorem dX1_init_90 : decode cX1_init 90 = .ok (.putfield 45, 3) := by decide +kernel
theorem dX1_init_93 : decode cX1_init 93 = .ok (.aload_n 0, 1) := by decide +kernel
theorem dX1_init_94 : decode cX1_init 94 = .ok (.bipush 20, 2) := by decide +kernel
theorem dX1_init_96 : decode cX1_init 96 = .ok (.newarray .int, 2) := by decide +kernel
theorem dX1_init_98 : decode cX1_init 98 = .ok (.putfield 48, 3) := by decide +kernel
theorem dX1_init_101 : decode cX1_init 101 = .ok (.aload_n 0, 1) := by decide +kernel
theorem dX1_init_102 : decode cX1_init 102 = .ok (.bipush 6, 2) := by decide +kernel
theorem dX1_init_104 : decode cX1_init 104 = .ok (.newarray .int, 2) := by decide +kernel
theorem dX1_init_106 : decode cX1_init 106 = .ok (.putfield 51, 3) := by decide +kernel
theorem dX1_init_109 : decode cX1_init 109 = .ok (.aload_n 0, 1) := by decide +kernel
theorem dX1_init_110 : decode cX1_init 110 = .ok (.bipush 6, 2) := by decide +kernel
theorem dX1_init_112 : decode cX1_init 112 = .ok (.newarray .int, 2) := by decide +kernel
theorem dX1_init_114 : decode cX1_init 114 = .ok (.putfield 54, 3) := by decide +kernel
theorem dX1_init_117 : decode cX1_init 117 = .ok (.aload_n 0, 1) := by decide +kernel
theorem dX1_init_118 : decode cX1_init 118 = .ok (.bipush 6, 2) := by decide +kernel
theorem dX1_init_120 : decode cX1_init 120 = .ok (.newarray .int, 2) := by decide +kernel
theorem dX1_init_122 : decode cX1_init 122 = .ok (.putfield 57, 3) := by decide +kernel
theorem dX1_init_125 : decode cX1_init 125 = .ok (.aload_n 0, 1) := by decide +kernel
theorem dX1_init_126 : decode cX1_init 126 = .ok (.bipush 6, 2) := by decide +kernel
theorem dX1_init_128 : decode cX1_init 128 = .ok (.newarray .int, 2) := by decide +kernel
theorem dX1_init_130 : decode cX1_init 130 = .ok (.putfield 60, 3) := by decide +kernel
theorem dX1_init_133 : decode cX1_init 133 = .ok (.aload_n 0, 1) := by decide +kernel
theorem dX1_init_134 : decode cX1_init 134 = .ok (.bipush 6, 2) := by decide +kernel
theorem dX1_init_136 : decode cX1_init 136 = .ok (.newarray .int, 2) := by decide +kernel
theorem dX1_init_138 : decode cX1_init 138 = .ok (.putfield 63, 3) := by decide +kernel
theorem dX1_init_141 : decode cX1_init 141 = .ok (.aload_n 0, 1) := by decide +kernel
theorem dX1_init_142 : decode cX1_init 142 = .ok (.bipush 6, 2) := by decide +kernel
theorem dX1_init_144 : decode cX1_init 144 = .ok (.newarray .int, 2) := by decide +kernel
theorem dX1_init_146 : decode cX1_init 146 = .ok (.putfield 66, 3) := by decide +kernel
theorem dX1_init_149 : decode cX1_init 149 = .ok (.aload_n 0, 1) := by decide +kernel
theorem dX1_init_150 : decode cX1_init 150 = .ok (.bipush 60, 2) := by decide +kernel
theorem dX1_init_152 : decode cX1_init 152 = .ok (.newarray .boolean, 2) := by decide +kernel
theorem dX1_init_154 : decode cX1_init 154 = .ok (.putfield 69, 3) := by decide +kernel
theorem dX1_init_157 : decode cX1_init 157 = .ok (.aload_n 0, 1) := by decide +kernel
theorem dX1_init_158 : decode cX1_init 158 = .ok (.bipush 10, 2) := by decide +kernel
theorem dX1_init_160 : decode cX1_init 160 = .ok (.newarray .int, 2) := by decide +kernel
theorem dX1_init_162 : decode cX1_init 162 = .ok (.putfield 73, 3) := by decide +kernel
theorem dX1_init_165 : decode cX1_init 165 = .ok (.aload_n 0, 1) := by decide +kernel
theorem dX1_init_166 : decode cX1_init 166 = .ok (.bipush 7, 2) := by decide +kernel
theorem dX1_init_168 : decode cX1_init 168 = .ok (.newarray .int, 2) := by decide +kernel
theorem dX1_init_170 : decode cX1_init 170 = .ok (.putfield 76, 3) := by decide +kernel
theorem dX1_init_173 : decode cX1_init 173 = .ok (.iconst 0, 1) := by decide +kernel
theorem dX1_init_174 : decode cX1_init 174 = .ok (.istore_n 1, 1) := by decide +kernel
theorem dX1_init_175 : decode cX1_init 175 = .ok (.iconst 0, 1) := by decide +kernel
theorem dX1_init_176 : decode cX1_init 176 = .ok (.istore_n 2, 1) := by decide +kernel
theorem dX1_init_177 : decode cX1_init 177 = .ok (.iconst 0, 1) := by decide +kernel
theorem dX1_init_178 : decode cX1_init 178 = .ok (.istore_n 3, 1) := by decide +kernel
theorem dX1_init_179 : decode cX1_init 179 = .ok (.iload_n 3, 1) := by decide +kernel
theorem dX1_init_180 : decode cX1_init 180 = .ok (.ldc 79, 2) := by decide +kernel
theorem dX1_init_182 : decode cX1_init 182 = .ok (.invokevirtual 81, 3) := by decide +kernel
theorem dX1_init_185 : decode cX1_init 185 = .ok (.if_icmp .ge 50, 3) := by decide +kernel
theorem dX1_init_188 : decode cX1_init 188 = .ok (.ldc 79, 2) := by decide +kernel
theorem dX1_init_190 : decode cX1_init 190 = .ok (.iload_n 3, 1) := by decide +kernel
theorem dX1_init_191 : decode cX1_init 191 = .ok (.invokevirtual 87, 3) := by decide +kernel
theorem dX1_init_194 : decode cX1_init 194 = .ok (.istore 4, 2) := by decide +kernel
theorem dX1_init_196 : decode cX1_init 196 = .ok (.iload 4, 2) := by decide +kernel
theorem dX1_init_198 : decode cX1_init 198 = .ok (.bipush 32, 2) := by decide +kernel
theorem dX1_init_200 : decode cX1_init 200 = .ok (.if_icmp .eq 17, 3) := by decide +kernel
theorem dX1_init_203 : decode cX1_init 203 = .ok (.bipush 10, 2) := by decide +kernel
theorem dX1_init_205 : decode cX1_init 205 = .ok (.iload_n 2, 1) := by decide +kernel
theorem dX1_init_206 : decode cX1_init 206 = .ok (.imul, 1) := by decide +kernel
theorem dX1_init_207 : decode cX1_init 207 = .ok (.iload 4, 2) := by decide +kernel
theorem dX1_init_209 : decode cX1_init 209 = .ok (.iadd, 1) := by decide +kernel
theorem dX1_init_210 : decode cX1_init 210 = .ok (.bipush 48, 2) := by decide +kernel
theorem dX1_init_212 : decode cX1_init 212 = .ok (.isub, 1) := by decide +kernel
theorem dX1_init_213 : decode cX1_init 213 = .ok (.istore_n 2, 1) := by decide +kernel
theorem dX1_init_214 : decode cX1_init 214 = .ok (.goto 15, 3) := by decide +kernel
theorem dX1_init_217 : decode cX1_init 217 = .ok (.aload_n 0, 1) := by decide +kernel
theorem dX1_init_218 : decode cX1_init 218 = .ok (.getfield 7, 3) := by decide +kernel
theorem dX1_init_221 : decode cX1_init 221 = .ok (.iload_n 1, 1) := by decide +kernel
theorem dX1_init_222 : decode cX1_init 222 = .ok (.iload_n 2, 1) := by decide +kernel
theorem dX1_init_223 : decode cX1_init 223 = .ok (.iastore, 1) := by decide +kernel
theorem dX1_init_224 : decode cX1_init 224 = .ok (.iinc 1 1, 3) := by decide +kernel
theorem dX1_init_227 : decode cX1_init 227 = .ok (.iconst 0, 1) := by decide +kernel
theorem dX1_init_228 : decode cX1_init 228 = .ok (.istore_n 2, 1) := by decide +kernel
theorem dX1_init_229 : decode cX1_init 229 = .ok (.iinc 3 1, 3) := by decide +kernel
theorem dX1_init_232 : decode cX1_init 232 = .ok (.goto (-53), 3) := by decide +kernel
theorem dX1_init_235 : decode cX1_init 235 = .ok (.return_, 1) := by decide +kernel
theorem dX1_lot_0 : decode cX1_lot 0 = .ok (.aload_n 0, 1) := by decide +kernel
theorem dX1_lot_1 : decode cX1_lot 1 = .ok (.getfield 108, 3) := by decide +kernel
theorem dX1_lot_4 : decode cX1_lot 4 = .ok (.bipush 20, 2) := by decide +kernel
theorem dX1_lot_6 : decode cX1_lot 6 = .ok (.if_icmp .eq 13, 3) := by decide +kernel
theorem dX1_lot_9 : decode cX1_lot 9 = .ok (.iload_n 1, 1) := by decide +kernel
theorem dX1_lot_10 : decode cX1_lot 10 = .ok (.iconst 1, 1) := by decide +kernel
theorem dX1_lot_11 : decode cX1_lot 11 = .ok (.ldc 111, 2) := by decide +kernel
theorem dX1_lot_13 : decode cX1_lot 13 = .ok (.invokestatic 94, 3) := by decide +kernel
theorem dX1_lot_16 : decode cX1_lot 16 = .ok (.ifCond .ne 5, 3) := by decide +kernel
theorem dX1_lot_19 : decode cX1_lot 19 = .ok (.iconst (-1), 1) := by decide +kernel
theorem dX1_lot_20 : decode cX1_lot 20 = .ok (.ireturn, 1) := by decide +kernel
theorem dX1_lot_21 : decode cX1_lot 21 = .ok (.aload_n 0, 1) := by decide +kernel
theorem dX1_lot_22 : decode cX1_lot 22 = .ok (.getfield 13, 3) := by decide +kernel
theorem dX1_lot_25 : decode cX1_lot 25 = .ok (.aload_n 0, 1) := by decide +kernel
theorem dX1_lot_26 : decode cX1_lot 26 = .ok (.getfield 108, 3) := by decide +kernel
theorem dX1_lot_29 : decode cX1_lot 29 = .ok (.iload_n 1, 1) := by decide +kernel
theorem dX1_lot_30 : decode cX1_lot 30 = .ok (.iastore, 1) := by decide +kernel
theorem dX1_lot_31 : decode cX1_lot 31 = .ok (.aload_n 0, 1) := by decide +kernel
theorem dX1_lot_32 : decode cX1_lot 32 = .ok (.dup, 1) := by decide +kernel
theorem dX1_lot_33 : decode cX1_lot 33 = .ok (.getfield 108, 3) := by decide +kernel
theorem dX1_lot_36 : decode cX1_lot 36 = .ok (.iconst 1, 1) := by decide +kernel
theorem dX1_lot_37 : decode cX1_lot 37 = .ok (.iadd, 1) := by decide +kernel
theorem dX1_lot_38 : decode cX1_lot 38 = .ok (.putfield 108, 3) := by decide +kernel
theorem dX1_lot_41 : decode cX1_lot 41 = .ok (.aload_n 0, 1) := by decide +kernel
theorem dX1_lot_42 : decode cX1_lot 42 = .ok (.getfield 108, 3) := by decide +kernel
theorem dX1_lot_45 : decode cX1_lot 45 = .ok (.iconst 1, 1) := by decide +kernel
theorem dX1_lot_46 : decode cX1_lot 46 = .ok (.isub, 1) := by decide +kernel
theorem dX1_lot_47 : decode cX1_lot 47 = .ok (.ireturn, 1) := by decide +kernel
theorem dX1_in_0 : decode cX1_in 0 = .ok (.iload_n 0, 1) := by decide +kernel
theorem dX1_in_1 : decode cX1_in 1 = .ok (.iload_n 1, 1) := by decide +kernel
theorem dX1_in_2 : decode cX1_in 2 = .ok (.if_icmp .lt 12, 3) := by decide +kernel
theorem dX1_in_5 : decode cX1_in 5 = .ok (.iload_n 0, 1) := by decide +kernel
theorem dX1_in_6 : decode cX1_in 6 = .ok (.iload_n 2, 1) := by decide +kernel
theorem dX1_in_7 : decode cX1_in 7 = .ok (.if_icmp .gt 7, 3) := by decide +kernel
theorem dX1_in_10 : decode cX1_in 10 = .ok (.iconst 1, 1) := by decide +kernel
theorem dX1_in_11 : decode cX1_in 11 = .ok (.goto 4, 3) := by decide +kernel
theorem dX1_in_14 : decode cX1_in 14 = .ok (.iconst 0, 1) := by decide +kernel
theorem dX1_in_15 : decode cX1_in 15 = .ok (.ireturn, 1) := by decide +kernel
theorem dX1_crock_0 : decode cX1_crock 0 = .ok (.aload_n 0, 1) := by decide +kernel
theorem dX1_crock_1 : decode cX1_crock 1 = .ok (.getfield 25, 3) := by decide +kernel
theorem dX1_crock_4 : decode cX1_crock 4 = .ok (.invokevirtual 91, 3) := by decide +kernel
theorem dX1_crock_7 : decode cX1_crock 7 = .ok (.bipush 10, 2) := by decide +kernel
theorem dX1_crock_9 : decode cX1_crock 9 = .ok (.if_icmp .eq 31, 3) := by decide +kernel
theorem dX1_crock_12 : decode cX1_crock 12 = .ok (.iload_n 1, 1) := by decide +kernel
theorem dX1_crock_13 : decode cX1_crock 13 = .ok (.iconst 0, 1) := by decide +kernel
theorem dX1_crock_14 : decode cX1_crock 14 = .ok (.bipush 11, 2) := by decide +kernel
theorem dX1_crock_16 : decode cX1_crock 16 = .ok (.invokestatic 94, 3) := by decide +kernel
theorem dX1_crock_19 : decode cX1_crock 19 = .ok (.ifCond .eq 21, 3) := by decide +kernel
theorem dX1_crock_22 : decode cX1_crock 22 = .ok (.iload_n 2, 1) := by decide +kernel
theorem dX1_crock_23 : decode cX1_crock 23 = .ok (.iconst 0, 1) := by decide +kernel
theorem dX1_crock_24 : decode cX1_crock 24 = .ok (.bipush 60, 2) := by decide +kernel
theorem dX1_crock_26 : decode cX1_crock 26 = .ok (.invokestatic 94, 3) := by decide +kernel
theorem dX1_crock_29 : decode cX1_crock 29 = .ok (.ifCond .eq 11, 3) := by decide +kernel
theorem dX1_crock_32 : decode cX1_crock 32 = .ok (.aload_n 0, 1) := by decide +kernel
theorem dX1_crock_33 : decode cX1_crock 33 = .ok (.iload_n 1, 1) := by decide +kernel
theorem dX1_crock_34 : decode cX1_crock 34 = .ok (.invokevirtual 113, 3) := by decide +kernel
theorem dX1_crock_37 : decode cX1_crock 37 = .ok (.ifCond .ne 5, 3) := by decide +kernel
theorem dX1_crock_40 : decode cX1_crock 40 = .ok (.iconst (-1), 1) := by decide +kernel
theorem dX1_crock_41 : decode cX1_crock 41 = .ok (.ireturn, 1) := by decide +kernel
theorem dX1_crock_42 : decode cX1_crock 42 = .ok (.aload_n 0, 1) := by decide +kernel
theorem dX1_crock_43 : decode cX1_crock 43 = .ok (.getfield 25, 3) := by decide +kernel
theorem dX1_crock_46 : decode cX1_crock 46 = .ok (.new 102, 3) := by decide +kernel
theorem dX1_crock_49 : decode cX1_crock 49 = .ok (.dup, 1) := by decide +kernel
theorem dX1_crock_50 : decode cX1_crock 50 = .ok (.aload_n 0, 1) := by decide +kernel
theorem dX1_crock_51 : decode cX1_crock 51 = .ok (.getfield 25, 3) := by decide +kernel
theorem dX1_crock_54 : decode cX1_crock 54 = .ok (.invokevirtual 91, 3) := by decide +kernel
theorem dX1_crock_57 : decode cX1_crock 57 = .ok (.iload_n 1, 1) := by decide +kernel
theorem dX1_crock_58 : decode cX1_crock 58 = .ok (.iload_n 2, 1) := by decide +kernel
theorem dX1_crock_59 : decode cX1_crock 59 = .ok (.aload_n 0, 1) := by decide +kernel
theorem dX1_crock_60 : decode cX1_crock 60 = .ok (.getfield 117, 3) := by decide +kernel
theorem dX1_crock_63 : decode cX1_crock 63 = .ok (.invokespecial 120, 3) := by decide +kernel
theorem dX1_crock_66 : decode cX1_crock 66 = .ok (.invokevirtual 123, 3) := by decide +kernel
theorem dX1_crock_69 : decode cX1_crock 69 = .ok (.pop, 1) := by decide +kernel
theorem dX1_crock_70 : decode cX1_crock 70 = .ok (.aload_n 0, 1) := by decide +kernel
theorem dX1_crock_71 : decode cX1_crock 71 = .ok (.getfield 25, 3) := by decide +kernel
theorem dX1_crock_74 : decode cX1_crock 74 = .ok (.invokevirtual 91, 3) := by decide +kernel
theorem dX1_crock_77 : decode cX1_crock 77 = .ok (.iconst 1, 1) := by decide +kernel
theorem dX1_crock_78 : decode cX1_crock 78 = .ok (.isub, 1) := by decide +kernel
theorem dX1_crock_79 : decode cX1_crock 79 = .ok (.ireturn, 1) := by decide +kernel
theorem dX1_isFree_0 : decode cX1_isFree 0 = .ok (.iconst 0, 1) := by decide +kernel
theorem dX1_isFree_1 : decode cX1_isFree 1 = .ok (.istore_n 2, 1) := by decide +kernel
theorem dX1_isFree_2 : decode cX1_isFree 2 = .ok (.iload_n 2, 1) := by decide +kernel
theorem dX1_isFree_3 : decode cX1_isFree 3 = .ok (.aload_n 0, 1) := by decide +kernel
theorem dX1_isFree_4 : decode cX1_isFree 4 = .ok (.getfield 25, 3) := by decide +kernel
theorem dX1_isFree_7 : decode cX1_isFree 7 = .ok (.invokevirtual 91, 3) := by decide +kernel
theorem dX1_isFree_10 : decode cX1_isFree 10 = .ok (.if_icmp .ge 46, 3) := by decide +kernel
theorem dX1_isFree_13 : decode cX1_isFree 13 = .ok (.aload_n 0, 1) := by decide +kernel
theorem dX1_isFree_14 : decode cX1_isFree 14 = .ok (.getfield 25, 3) := by decide +kernel
theorem dX1_isFree_17 : decode cX1_isFree 17 = .ok (.iload_n 2, 1) := by decide +kernel
theorem dX1_isFree_18 : decode cX1_isFree 18 = .ok (.invokevirtual 98, 3) := by decide +kernel
theorem dX1_isFree_21 : decode cX1_isFree 21 = .ok (.checkcast 102, 3) := by decide +kernel
theorem dX1_isFree_24 : decode cX1_isFree 24 = .ok (.invokevirtual 104, 3) := by decide +kernel
theorem dX1_isFree_27 : decode cX1_isFree 27 = .ok (.ifCond .eq 23, 3) := by decide +kernel
theorem dX1_isFree_30 : decode cX1_isFree 30 = .ok (.aload_n 0, 1) := by decide +kernel
theorem dX1_isFree_31 : decode cX1_isFree 31 = .ok (.getfield 25, 3) := by decide +kernel
theorem dX1_isFree_34 : decode cX1_isFree 34 = .ok (.iload_n 2, 1) := by decide +kernel
theorem dX1_isFree_35 : decode cX1_isFree 35 = .ok (.invokevirtual 98, 3) := by decide +kernel
theorem dX1_isFree_38 : decode cX1_isFree 38 = .ok (.checkcast 102, 3) := by decide +kernel
theorem dX1_isFree_41 : decode cX1_isFree 41 = .ok (.getfield 112, 3) := by decide +kernel
theorem dX1_isFree_44 : decode cX1_isFree 44 = .ok (.iload_n 1, 1) := by decide +kernel
theorem dX1_isFree_45 : decode cX1_isFree 45 = .ok (.if_icmp .ne 5, 3) := by decide +kernel
theorem dX1_isFree_48 : decode cX1_isFree 48 = .ok (.iconst 0, 1) := by decide +kernel
theorem dX1_isFree_49 : decode cX1_isFree 49 = .ok (.ireturn, 1) := by decide +kernel
theorem dX1_isFree_50 : decode cX1_isFree 50 = .ok (.iinc 2 1, 3) := by decide +kernel
theorem dX1_isFree_53 : decode cX1_isFree 53 = .ok (.goto (-51), 3) := by decide +kernel
theorem dX1_isFree_56 : decode cX1_isFree 56 = .ok (.iconst 1, 1) := by decide +kernel
theorem dX1_isFree_57 : decode cX1_isFree 57 = .ok (.ireturn, 1) := by decide +kernel
theorem dX1_put_0 : decode cX1_put 0 = .ok (.aload_n 0, 1) := by decide +kernel
theorem dX1_put_1 : decode cX1_put 1 = .ok (.iload_n 1, 1) := by decide +kernel
theorem dX1_put_2 : decode cX1_put 2 = .ok (.invokevirtual 127, 3) := by decide +kernel
theorem dX1_put_5 : decode cX1_put 5 = .ok (.astore 4, 2) := by decide +kernel
theorem dX1_put_7 : decode cX1_put 7 = .ok (.aload 4, 2) := by decide +kernel
theorem dX1_put_9 : decode cX1_put 9 = .ok (.ifnull 32, 3) := by decide +kernel
theorem dX1_put_12 : decode cX1_put 12 = .ok (.iload_n 2, 1) := by decide +kernel
theorem dX1_put_13 : decode cX1_put 13 = .ok (.iconst 0, 1) := by decide +kernel
theorem dX1_put_14 : decode cX1_put 14 = .ok (.aload_n 0, 1) := by decide +kernel
theorem dX1_put_15 : decode cX1_put 15 = .ok (.getfield 108, 3) := by decide +kernel
theorem dX1_put_18 : decode cX1_put 18 = .ok (.iconst 1, 1) := by decide +kernel
theorem dX1_put_19 : decode cX1_put 19 = .ok (.isub, 1) := by decide +kernel
theorem dX1_put_20 : decode cX1_put 20 = .ok (.invokestatic 94, 3) := by decide +kernel
theorem dX1_put_23 : decode cX1_put 23 = .ok (.ifCond .eq 18, 3) := by decide +kernel
theorem dX1_put_26 : decode cX1_put 26 = .ok (.iload_n 3, 1) := by decide +kernel
theorem dX1_put_27 : decode cX1_put 27 = .ok (.iconst 1, 1) := by decide +kernel
theorem dX1_put_28 : decode cX1_put 28 = .ok (.if_icmp .lt 13, 3) := by decide +kernel
theorem dX1_put_31 : decode cX1_put 31 = .ok (.iload_n 3, 1) := by decide +kernel
theorem dX1_put_32 : decode cX1_put 32 = .ok (.aload_n 0, 1) := by decide +kernel
theorem dX1_put_33 : decode cX1_put 33 = .ok (.getfield 13, 3) := by decide +kernel
theorem dX1_put_36 : decode cX1_put 36 = .ok (.iload_n 2, 1) := by decide +kernel
theorem dX1_put_37 : decode cX1_put 37 = .ok (.iaload, 1) := by decide +kernel
theorem dX1_put_38 : decode cX1_put 38 = .ok (.if_icmp .le 5, 3) := by decide +kernel
theorem dX1_put_41 : decode cX1_put 41 = .ok (.iconst (-1), 1) := by decide +kernel
theorem dX1_put_42 : decode cX1_put 42 = .ok (.ireturn, 1) := by decide +kernel
theorem dX1_put_43 : decode cX1_put 43 = .ok (.aload_n 0, 1) := by decide +kernel
theorem dX1_put_44 : decode cX1_put 44 = .ok (.getfield 13, 3) := by decide +kernel
theorem dX1_put_47 : decode cX1_put 47 = .ok (.iload_n 2, 1) := by decide +kernel
theorem dX1_put_48 : decode cX1_put 48 = .ok (.dup2, 1) := by decide +kernel
theorem dX1_put_49 : decode cX1_put 49 = .ok (.iaload, 1) := by decide +kernel
theorem dX1_put_50 : decode cX1_put 50 = .ok (.iload_n 3, 1) := by decide +kernel
theorem dX1_put_51 : decode cX1_put 51 = .ok (.isub, 1) := by decide +kernel
theorem dX1_put_52 : decode cX1_put 52 = .ok (.iastore, 1) := by decide +kernel
theorem dX1_put_53 : decode cX1_put 53 = .ok (.aload 4, 2) := by decide +kernel
theorem dX1_put_55 : decode cX1_put 55 = .ok (.getfield 131, 3) := by decide +kernel
theorem dX1_put_58 : decode cX1_put 58 = .ok (.iload_n 2, 1) := by decide +kernel
theorem dX1_put_59 : decode cX1_put 59 = .ok (.dup2, 1) := by decide +kernel
theorem dX1_put_60 : decode cX1_put 60 = .ok (.iaload, 1) := by decide +kernel
theorem dX1_put_61 : decode cX1_put 61 = .ok (.iload_n 3, 1) := by decide +kernel
theorem dX1_put_62 : decode cX1_put 62 = .ok (.iadd, 1) := by decide +kernel
theorem dX1_put_63 : decode cX1_put 63 = .ok (.iastore, 1) := by decide +kernel
theorem dX1_put_64 : decode cX1_put 64 = .ok (.aload 4, 2) := by decide +kernel
theorem dX1_put_66 : decode cX1_put 66 = .ok (.invokevirtual 134, 3) := by decide +kernel
theorem dX1_put_69 : decode cX1_put 69 = .ok (.ireturn, 1) := by decide +kernel
theorem dX1_there_0 : decode cX1_there 0 = .ok (.iload_n 1, 1) := by decide +kernel
theorem dX1_there_1 : decode cX1_there 1 = .ok (.iconst 0, 1) := by decide +kernel
theorem dX1_there_2 : decode cX1_there 2 = .ok (.aload_n 0, 1) := by decide +kernel
theorem dX1_there_3 : decode cX1_there 3 = .ok (.getfield 25, 3) := by decide +kernel
theorem dX1_there_6 : decode cX1_there 6 = .ok (.invokevirtual 91, 3) := by decide +kernel
theorem dX1_there_9 : decode cX1_there 9 = .ok (.iconst 1, 1) := by decide +kernel
theorem dX1_there_10 : decode cX1_there 10 = .ok (.isub, 1) := by decide +kernel
theorem dX1_there_11 : decode cX1_there 11 = .ok (.invokestatic 94, 3) := by decide +kernel
theorem dX1_there_14 : decode cX1_there 14 = .ok (.ifCond .eq 34, 3) := by decide +kernel
theorem dX1_there_17 : decode cX1_there 17 = .ok (.aload_n 0, 1) := by decide +kernel
theorem dX1_there_18 : decode cX1_there 18 = .ok (.getfield 25, 3) := by decide +kernel
theorem dX1_there_21 : decode cX1_there 21 = .ok (.iload_n 1, 1) := by decide +kernel
theorem dX1_there_22 : decode cX1_there 22 = .ok (.invokevirtual 98, 3) := by decide +kernel
theorem dX1_there_25 : decode cX1_there 25 = .ok (.checkcast 102, 3) := by decide +kernel
theorem dX1_there_28 : decode cX1_there 28 = .ok (.invokevirtual 104, 3) := by decide +kernel
theorem dX1_there_31 : decode cX1_there 31 = .ok (.ifCond .eq 17, 3) := by decide +kernel
theorem dX1_there_34 : decode cX1_there 34 = .ok (.aload_n 0, 1) := by decide +kernel
theorem dX1_there_35 : decode cX1_there 35 = .ok (.getfield 25, 3) := by decide +kernel
theorem dX1_there_38 : decode cX1_there 38 = .ok (.iload_n 1, 1) := by decide +kernel
theorem dX1_there_39 : decode cX1_there 39 = .ok (.invokevirtual 98, 3) := by decide +kernel
theorem dX1_there_42 : decode cX1_there 42 = .ok (.checkcast 102, 3) := by decide +kernel
theorem dX1_there_45 : decode cX1_there 45 = .ok (.goto 4, 3) := by decide +kernel
theorem dX1_there_48 : decode cX1_there 48 = .ok (.aconst_null, 1) := by decide +kernel
theorem dX1_there_49 : decode cX1_there 49 = .ok (.areturn, 1) := by decide +kernel
theorem dX1_warmth_0 : decode cX1_warmth 0 = .ok (.iload_n 1, 1) := by decide +kernel
theorem dX1_warmth_1 : decode cX1_warmth 1 = .ok (.iconst 0, 1) := by decide +kernel
theorem dX1_warmth_2 : decode cX1_warmth 2 = .ok (.iconst 2, 1) := by decide +kernel
theorem dX1_warmth_3 : decode cX1_warmth 3 = .ok (.invokestatic 94, 3) := by decide +kernel
theorem dX1_warmth_6 : decode cX1_warmth 6 = .ok (.ifCond .eq 28, 3) := by decide +kernel
theorem dX1_warmth_9 : decode cX1_warmth 9 = .ok (.iload_n 2, 1) := by decide +kernel
theorem dX1_warmth_10 : decode cX1_warmth 10 = .ok (.aload_n 0, 1) := by decide +kernel
theorem dX1_warmth_11 : decode cX1_warmth 11 = .ok (.getfield 117, 3) := by decide +kernel
theorem dX1_warmth_14 : decode cX1_warmth 14 = .ok (.sipush 599, 3) := by decide +kernel
theorem dX1_warmth_17 : decode cX1_warmth 17 = .ok (.invokestatic 94, 3) := by decide +kernel
theorem dX1_warmth_20 : decode cX1_warmth 20 = .ok (.ifCond .eq 14, 3) := by decide +kernel
theorem dX1_warmth_23 : decode cX1_warmth 23 = .ok (.iload_n 3, 1) := by decide +kernel
theorem dX1_warmth_24 : decode cX1_warmth 24 = .ok (.bipush (-5), 2) := by decide +kernel
theorem dX1_warmth_26 : decode cX1_warmth 26 = .ok (.bipush 42, 2) := by decide +kernel
theorem dX1_warmth_28 : decode cX1_warmth 28 = .ok (.invokestatic 94, 3) := by decide +kernel
theorem dX1_warmth_31 : decode cX1_warmth 31 = .ok (.ifCond .ne 5, 3) := by decide +kernel
theorem dX1_warmth_34 : decode cX1_warmth 34 = .ok (.iconst 0, 1) := by decide +kernel
theorem dX1_warmth_35 : decode cX1_warmth 35 = .ok (.ireturn, 1) := by decide +kernel
theorem dX1_warmth_36 : decode cX1_warmth 36 = .ok (.aload_n 0, 1) := by decide +kernel
theorem dX1_warmth_37 : decode cX1_warmth 37 = .ok (.getfield 18, 3) := by decide +kernel
theorem dX1_warmth_40 : decode cX1_warmth 40 = .ok (.iload_n 1, 1) := by decide +kernel
theorem dX1_warmth_41 : decode cX1_warmth 41 = .ok (.aaload, 1) := by decide +kernel
theorem dX1_warmth_42 : decode cX1_warmth 42 = .ok (.ifnonnull 42, 3) := by decide +kernel
theorem dX1_warmth_45 : decode cX1_warmth 45 = .ok (.aload_n 0, 1) := by decide +kernel
theorem dX1_warmth_46 : decode cX1_warmth 46 = .ok (.getfield 18, 3) := by decide +kernel
theorem dX1_warmth_49 : decode cX1_warmth 49 = .ok (.iload_n 1, 1) := by decide +kernel
theorem dX1_warmth_50 : decode cX1_warmth 50 = .ok (.sipush 600, 3) := by decide +kernel
theorem dX1_warmth_53 : decode cX1_warmth 53 = .ok (.newarray .byte, 2) := by decide +kernel
theorem dX1_warmth_55 : decode cX1_warmth 55 = .ok (.aastore, 1) := by decide +kernel
theorem dX1_warmth_56 : decode cX1_warmth 56 = .ok (.iconst 0, 1) := by decide +kernel
theorem dX1_warmth_57 : decode cX1_warmth 57 = .ok (.istore 4, 2) := by decide +kernel
theorem dX1_warmth_59 : decode cX1_warmth 59 = .ok (.iload 4, 2) := by decide +kernel
theorem dX1_warmth_61 : decode cX1_warmth 61 = .ok (.sipush 600, 3) := by decide +kernel
theorem dX1_warmth_64 : decode cX1_warmth 64 = .ok (.if_icmp .ge 20, 3) := by decide +kernel
theorem dX1_warmth_67 : decode cX1_warmth 67 = .ok (.aload_n 0, 1) := by decide +kernel
theorem dX1_warmth_68 : decode cX1_warmth 68 = .ok (.getfield 18, 3) := by decide +kernel
theorem dX1_warmth_71 : decode cX1_warmth 71 = .ok (.iload_n 1, 1) := by decide +kernel
theorem dX1_warmth_72 : decode cX1_warmth 72 = .ok (.aaload, 1) := by decide +kernel
theorem dX1_warmth_73 : decode cX1_warmth 73 = .ok (.iload 4, 2) := by decide +kernel
theorem dX1_warmth_75 : decode cX1_warmth 75 = .ok (.bipush 100, 2) := by decide +kernel
theorem dX1_warmth_77 : decode cX1_warmth 77 = .ok (.bastore, 1) := by decide +kernel
theorem dX1_warmth_78 : decode cX1_warmth 78 = .ok (.iinc 4 1, 3) := by decide +kernel
theorem dX1_warmth_81 : decode cX1_warmth 81 = .ok (.goto (-22), 3) := by decide +kernel
theorem dX1_warmth_84 : decode cX1_warmth 84 = .ok (.aload_n 0, 1) := by decide +kernel
theorem dX1_warmth_85 : decode cX1_warmth 85 = .ok (.getfield 18, 3) := by decide +kernel
theorem dX1_warmth_88 : decode cX1_warmth 88 = .ok (.iload_n 1, 1) := by decide +kernel
theorem dX1_warmth_89 : decode cX1_warmth 89 = .ok (.aaload, 1) := by decide +kernel
theorem dX1_warmth_90 : decode cX1_warmth 90 = .ok (.iload_n 2, 1) := by decide +kernel
theorem dX1_warmth_91 : decode cX1_warmth 91 = .ok (.iload_n 3, 1) := by decide +kernel
theorem dX1_warmth_92 : decode cX1_warmth 92 = .ok (.i2b, 1) := by decide +kernel
theorem dX1_warmth_93 : decode cX1_warmth 93 = .ok (.bastore, 1) := by decide +kernel
theorem dX1_warmth_94 : decode cX1_warmth 94 = .ok (.iconst 1, 1) := by decide +kernel
theorem dX1_warmth_95 : decode cX1_warmth 95 = .ok (.ireturn, 1) := by decide +kernel
theorem dX1_hours_0 : decode cX1_hours 0 = .ok (.iload_n 1, 1) := by decide +kernel
theorem dX1_hours_1 : decode cX1_hours 1 = .ok (.iconst 1, 1) := by decide +kernel
theorem dX1_hours_2 : decode cX1_hours 2 = .ok (.bipush 100, 2) := by decide +kernel
theorem dX1_hours_4 : decode cX1_hours 4 = .ok (.invokestatic 94, 3) := by decide +kernel
theorem dX1_hours_7 : decode cX1_hours 7 = .ok (.ifCond .eq 15, 3) := by decide +kernel
theorem dX1_hours_10 : decode cX1_hours 10 = .ok (.aload_n 0, 1) := by decide +kernel
theorem dX1_hours_11 : decode cX1_hours 11 = .ok (.getfield 117, 3) := by decide +kernel
theorem dX1_hours_14 : decode cX1_hours 14 = .ok (.iload_n 1, 1) := by decide +kernel
theorem dX1_hours_15 : decode cX1_hours 15 = .ok (.iadd, 1) := by decide +kernel
theorem dX1_hours_16 : decode cX1_hours 16 = .ok (.sipush 600, 3) := by decide +kernel
theorem dX1_hours_19 : decode cX1_hours 19 = .ok (.if_icmp .le 5, 3) := by decide +kernel
theorem dX1_hours_22 : decode cX1_hours 22 = .ok (.iconst (-1), 1) := by decide +kernel
theorem dX1_hours_23 : decode cX1_hours 23 = .ok (.ireturn, 1) := by decide +kernel
theorem dX1_hours_24 : decode cX1_hours 24 = .ok (.iconst 0, 1) := by decide +kernel
theorem dX1_hours_25 : decode cX1_hours 25 = .ok (.istore_n 2, 1) := by decide +kernel
theorem dX1_hours_26 : decode cX1_hours 26 = .ok (.iload_n 2, 1) := by decide +kernel
theorem dX1_hours_27 : decode cX1_hours 27 = .ok (.iload_n 1, 1) := by decide +kernel
theorem dX1_hours_28 : decode cX1_hours 28 = .ok (.if_icmp .ge 13, 3) := by decide +kernel
theorem dX1_hours_31 : decode cX1_hours 31 = .ok (.aload_n 0, 1) := by decide +kernel
theorem dX1_hours_32 : decode cX1_hours 32 = .ok (.invokevirtual 156, 3) := by decide +kernel
theorem dX1_hours_35 : decode cX1_hours 35 = .ok (.iinc 2 1, 3) := by decide +kernel
theorem dX1_hours_38 : decode cX1_hours 38 = .ok (.goto (-12), 3) := by decide +kernel
theorem dX1_hours_41 : decode cX1_hours 41 = .ok (.aload_n 0, 1) := by decide +kernel
theorem dX1_hours_42 : decode cX1_hours 42 = .ok (.getfield 117, 3) := by decide +kernel
theorem dX1_hours_45 : decode cX1_hours 45 = .ok (.ireturn, 1) := by decide +kernel
theorem dX1_hour_0 : decode cX1_hour 0 = .ok (.aload_n 0, 1) := by decide +kernel
theorem dX1_hour_1 : decode cX1_hour 1 = .ok (.invokevirtual 159, 3) := by decide +kernel
theorem dX1_hour_4 : decode cX1_hour 4 = .ok (.astore_n 1, 1) := by decide +kernel
theorem dX1_hour_5 : decode cX1_hour 5 = .ok (.iconst 0, 1) := by decide +kernel
theorem dX1_hour_6 : decode cX1_hour 6 = .ok (.istore_n 2, 1) := by decide +kernel
theorem dX1_hour_7 : decode cX1_hour 7 = .ok (.iload_n 2, 1) := by decide +kernel
theorem dX1_hour_8 : decode cX1_hour 8 = .ok (.aload_n 0, 1) := by decide +kernel
theorem dX1_hour_9 : decode cX1_hour 9 = .ok (.getfield 25, 3) := by decide +kernel
theorem dX1_hour_12 : decode cX1_hour 12 = .ok (.invokevirtual 91, 3) := by decide +kernel
theorem dX1_hour_15 : decode cX1_hour 15 = .ok (.if_icmp .ge 140, 3) := by decide +kernel
theorem dX1_hour_18 : decode cX1_hour 18 = .ok (.aload_n 0, 1) := by decide +kernel
theorem dX1_hour_19 : decode cX1_hour 19 = .ok (.getfield 25, 3) := by decide +kernel
theorem dX1_hour_22 : decode cX1_hour 22 = .ok (.iload_n 2, 1) := by decide +kernel
theorem dX1_hour_23 : decode cX1_hour 23 = .ok (.invokevirtual 98, 3) := by decide +kernel
theorem dX1_hour_26 : decode cX1_hour 26 = .ok (.checkcast 102, 3) := by decide +kernel
theorem dX1_hour_29 : decode cX1_hour 29 = .ok (.astore_n 3, 1) := by decide +kernel
theorem dX1_hour_30 : decode cX1_hour 30 = .ok (.iconst 0, 1) := by decide +kernel
theorem dX1_hour_31 : decode cX1_hour 31 = .ok (.istore 4, 2) := by decide +kernel
theorem dX1_hour_33 : decode cX1_hour 33 = .ok (.aload_n 1, 1) := by decide +kernel
theorem dX1_hour_34 : decode cX1_hour 34 = .ok (.ifnull 45, 3) := by decide +kernel
theorem dX1_hour_37 : decode cX1_hour 37 = .ok (.iload 4, 2) := by decide +kernel
theorem dX1_hour_39 : decode cX1_hour 39 = .ok (.aload_n 1, 1) := by decide +kernel
theorem dX1_hour_40 : decode cX1_hour 40 = .ok (.getfield 163, 3) := by decide +kernel
theorem dX1_hour_43 : decode cX1_hour 43 = .ok (.invokevirtual 91, 3) := by decide +kernel
theorem dX1_hour_46 : decode cX1_hour 46 = .ok (.if_icmp .ge 33, 3) := by decide +kernel
theorem dX1_hour_49 : decode cX1_hour 49 = .ok (.aload_n 3, 1) := by decide +kernel
theorem dX1_hour_50 : decode cX1_hour 50 = .ok (.invokevirtual 104, 3) := by decide +kernel
theorem dX1_hour_53 : decode cX1_hour 53 = .ok (.ifCond .eq 26, 3) := by decide +kernel
theorem dX1_hour_56 : decode cX1_hour 56 = .ok (.aload_n 1, 1) := by decide +kernel
theorem dX1_hour_57 : decode cX1_hour 57 = .ok (.getfield 163, 3) := by decide +kernel
theorem dX1_hour_60 : decode cX1_hour 60 = .ok (.iload 4, 2) := by decide +kernel
theorem dX1_hour_62 : decode cX1_hour 62 = .ok (.invokevirtual 98, 3) := by decide +kernel
theorem dX1_hour_65 : decode cX1_hour 65 = .ok (.checkcast 166, 3) := by decide +kernel
theorem dX1_hour_68 : decode cX1_hour 68 = .ok (.aload_n 0, 1) := by decide +kernel
theorem dX1_hour_69 : decode cX1_hour 69 = .ok (.aload_n 3, 1) := by decide +kernel
theorem dX1_hour_70 : decode cX1_hour 70 = .ok (.invokevirtual 168, 3) := by decide +kernel
theorem dX1_hour_73 : decode cX1_hour 73 = .ok (.iinc 4 1, 3) := by decide +kernel
theorem dX1_hour_76 : decode cX1_hour 76 = .ok (.goto (-43), 3) := by decide +kernel
theorem dX1_hour_79 : decode cX1_hour 79 = .ok (.aload_n 3, 1) := by decide +kernel
theorem dX1_hour_80 : decode cX1_hour 80 = .ok (.invokevirtual 104, 3) := by decide +kernel
theorem dX1_hour_83 : decode cX1_hour 83 = .ok (.ifCond .ne 6, 3) := by decide +kernel
theorem dX1_hour_86 : decode cX1_hour 86 = .ok (.goto 63, 3) := by decide +kernel
theorem dX1_hour_89 : decode cX1_hour 89 = .ok (.aload_n 0, 1) := by decide +kernel
theorem dX1_hour_90 : decode cX1_hour 90 = .ok (.aload_n 3, 1) := by decide +kernel
theorem dX1_hour_91 : decode cX1_hour 91 = .ok (.invokevirtual 171, 3) := by decide +kernel
theorem dX1_hour_94 : decode cX1_hour 94 = .ok (.istore 4, 2) := by decide +kernel
theorem dX1_hour_96 : decode cX1_hour 96 = .ok (.aload_n 3, 1) := by decide +kernel
theorem dX1_hour_97 : decode cX1_hour 97 = .ok (.getfield 175, 3) := by decide +kernel
theorem dX1_hour_100 : decode cX1_hour 100 = .ok (.aload_n 0, 1) := by decide +kernel
theorem dX1_hour_101 : decode cX1_hour 101 = .ok (.getfield 117, 3) := by decide +kernel
theorem dX1_hour_104 : decode cX1_hour 104 = .ok (.iload 4, 2) := by decide +kernel
theorem dX1_hour_106 : decode cX1_hour 106 = .ok (.i2b, 1) := by decide +kernel
theorem dX1_hour_107 : decode cX1_hour 107 = .ok (.bastore, 1) := by decide +kernel
theorem dX1_hour_108 : decode cX1_hour 108 = .ok (.aload_n 3, 1) := by decide +kernel
theorem dX1_hour_109 : decode cX1_hour 109 = .ok (.iload 4, 2) := by decide +kernel
theorem dX1_hour_111 : decode cX1_hour 111 = .ok (.putfield 178, 3) := by decide +kernel
theorem dX1_hour_114 : decode cX1_hour 114 = .ok (.aload_n 3, 1) := by decide +kernel
theorem dX1_hour_115 : decode cX1_hour 115 = .ok (.bipush 100, 2) := by decide +kernel
theorem dX1_hour_117 : decode cX1_hour 117 = .ok (.aload_n 3, 1) := by decide +kernel
theorem dX1_hour_118 : decode cX1_hour 118 = .ok (.getfield 181, 3) := by decide +kernel
theorem dX1_hour_121 : decode cX1_hour 121 = .ok (.iload 4, 2) := by decide +kernel
theorem dX1_hour_123 : decode cX1_hour 123 = .ok (.iconst 2, 1) := by decide +kernel
theorem dX1_hour_124 : decode cX1_hour 124 = .ok (.idiv, 1) := by decide +kernel
theorem dX1_hour_125 : decode cX1_hour 125 = .ok (.iadd, 1) := by decide +kernel
theorem dX1_hour_126 : decode cX1_hour 126 = .ok (.iconst 1, 1) := by decide +kernel
theorem dX1_hour_127 : decode cX1_hour 127 = .ok (.iadd, 1) := by decide +kernel
theorem dX1_hour_128 : decode cX1_hour 128 = .ok (.invokestatic 184, 3) := by decide +kernel
theorem dX1_hour_131 : decode cX1_hour 131 = .ok (.putfield 181, 3) := by decide +kernel
theorem dX1_hour_134 : decode cX1_hour 134 = .ok (.aload_n 3, 1) := by decide +kernel
theorem dX1_hour_135 : decode cX1_hour 135 = .ok (.getfield 181, 3) := by decide +kernel
theorem dX1_hour_138 : decode cX1_hour 138 = .ok (.bipush 100, 2) := by decide +kernel
theorem dX1_hour_140 : decode cX1_hour 140 = .ok (.if_icmp .ne 9, 3) := by decide +kernel
theorem dX1_hour_143 : decode cX1_hour 143 = .ok (.aload_n 0, 1) := by decide +kernel
theorem dX1_hour_144 : decode cX1_hour 144 = .ok (.aload_n 3, 1) := by decide +kernel
theorem dX1_hour_145 : decode cX1_hour 145 = .ok (.iconst 3, 1) := by decide +kernel
theorem dX1_hour_146 : decode cX1_hour 146 = .ok (.invokevirtual 189, 3) := by decide +kernel
theorem dX1_hour_149 : decode cX1_hour 149 = .ok (.iinc 2 1, 3) := by decide +kernel
theorem dX1_hour_152 : decode cX1_hour 152 = .ok (.goto (-145), 3) := by decide +kernel
theorem dX1_hour_155 : decode cX1_hour 155 = .ok (.aload_n 0, 1) := by decide +kernel
theorem dX1_hour_156 : decode cX1_hour 156 = .ok (.dup, 1) := by decide +kernel
theorem dX1_hour_157 : decode cX1_hour 157 = .ok (.getfield 117, 3) := by decide +kernel
theorem dX1_hour_160 : decode cX1_hour 160 = .ok (.iconst 1, 1) := by decide +kernel
theorem dX1_hour_161 : decode cX1_hour 161 = .ok (.iadd, 1) := by decide +kernel
theorem dX1_hour_162 : decode cX1_hour 162 = .ok (.putfield 117, 3) := by decide +kernel
theorem dX1_hour_165 : decode cX1_hour 165 = .ok (.return_, 1) := by decide +kernel
theorem dX1_inForce_0 : decode cX1_inForce 0 = .ok (.aconst_null, 1) := by decide +kernel
theorem dX1_inForce_1 : decode cX1_inForce 1 = .ok (.astore_n 1, 1) := by decide +kernel
theorem dX1_inForce_2 : decode cX1_inForce 2 = .ok (.iconst 0, 1) := by decide +kernel
theorem dX1_inForce_3 : decode cX1_inForce 3 = .ok (.istore_n 2, 1) := by decide +kernel
theorem dX1_inForce_4 : decode cX1_inForce 4 = .ok (.iload_n 2, 1) := by decide +kernel
theorem dX1_inForce_5 : decode cX1_inForce 5 = .ok (.aload_n 0, 1) := by decide +kernel
theorem dX1_inForce_6 : decode cX1_inForce 6 = .ok (.getfield 32, 3) := by decide +kernel
theorem dX1_inForce_9 : decode cX1_inForce 9 = .ok (.invokevirtual 91, 3) := by decide +kernel
theorem dX1_inForce_12 : decode cX1_inForce 12 = .ok (.if_icmp .ge 52, 3) := by decide +kernel
theorem dX1_inForce_15 : decode cX1_inForce 15 = .ok (.aload_n 0, 1) := by decide +kernel
theorem dX1_inForce_16 : decode cX1_inForce 16 = .ok (.getfield 32, 3) := by decide +kernel
theorem dX1_inForce_19 : decode cX1_inForce 19 = .ok (.iload_n 2, 1) := by decide +kernel
theorem dX1_inForce_20 : decode cX1_inForce 20 = .ok (.invokevirtual 98, 3) := by decide +kernel
theorem dX1_inForce_23 : decode cX1_inForce 23 = .ok (.checkcast 151, 3) := by decide +kernel
theorem dX1_inForce_26 : decode cX1_inForce 26 = .ok (.astore_n 3, 1) := by decide +kernel
theorem dX1_inForce_27 : decode cX1_inForce 27 = .ok (.aload_n 3, 1) := by decide +kernel
theorem dX1_inForce_28 : decode cX1_inForce 28 = .ok (.getfield 153, 3) := by decide +kernel
theorem dX1_inForce_31 : decode cX1_inForce 31 = .ok (.aload_n 0, 1) := by decide +kernel
theorem dX1_inForce_32 : decode cX1_inForce 32 = .ok (.getfield 117, 3) := by decide +kernel
theorem dX1_inForce_35 : decode cX1_inForce 35 = .ok (.bipush 24, 2) := by decide +kernel
theorem dX1_inForce_37 : decode cX1_inForce 37 = .ok (.idiv, 1) := by decide +kernel
theorem dX1_inForce_38 : decode cX1_inForce 38 = .ok (.if_icmp .gt 20, 3) := by decide +kernel
theorem dX1_inForce_41 : decode cX1_inForce 41 = .ok (.aload_n 1, 1) := by decide +kernel
theorem dX1_inForce_42 : decode cX1_inForce 42 = .ok (.ifnull 14, 3) := by decide +kernel
theorem dX1_inForce_45 : decode cX1_inForce 45 = .ok (.aload_n 3, 1) := by decide +kernel
theorem dX1_inForce_46 : decode cX1_inForce 46 = .ok (.getfield 153, 3) := by decide +kernel
theorem dX1_inForce_49 : decode cX1_inForce 49 = .ok (.aload_n 1, 1) := by decide +kernel
theorem dX1_inForce_50 : decode cX1_inForce 50 = .ok (.getfield 153, 3) := by decide +kernel
theorem dX1_inForce_53 : decode cX1_inForce 53 = .ok (.if_icmp .lt 5, 3) := by decide +kernel
theorem dX1_inForce_56 : decode cX1_inForce 56 = .ok (.aload_n 3, 1) := by decide +kernel
theorem dX1_inForce_57 : decode cX1_inForce 57 = .ok (.astore_n 1, 1) := by decide +kernel
theorem dX1_inForce_58 : decode cX1_inForce 58 = .ok (.iinc 2 1, 3) := by decide +kernel
theorem dX1_inForce_61 : decode cX1_inForce 61 = .ok (.goto (-57), 3) := by decide +kernel
theorem dX1_inForce_64 : decode cX1_inForce 64 = .ok (.aload_n 1, 1) := by decide +kernel
theorem dX1_inForce_65 : decode cX1_inForce 65 = .ok (.areturn, 1) := by decide +kernel
theorem dX1_field_0 : decode cX1_field 0 = .ok (.iload_n 2, 1) := by decide +kernel
theorem dX1_field_1 : decode cX1_field 1 = .ok (.tableswitch 118 0 6 #[43, 61, 79, 84, 89, 99, 105], 43) := by decide +kernel
theorem dX1_field_44 : decode cX1_field 44 = .ok (.aload_n 0, 1) := by decide +kernel
theorem dX1_field_45 : decode cX1_field 45 = .ok (.aload_n 1, 1) := by decide +kernel
theorem dX1_field_46 : decode cX1_field 46 = .ok (.aload_n 0, 1) := by decide +kernel
theorem dX1_field_47 : decode cX1_field 47 = .ok (.getfield 117, 3) := by decide +kernel
theorem dX1_field_50 : decode cX1_field 50 = .ok (.aload_n 0, 1) := by decide +kernel
theorem dX1_field_51 : decode cX1_field 51 = .ok (.getfield 29, 3) := by decide +kernel
theorem dX1_field_54 : decode cX1_field 54 = .ok (.invokevirtual 91, 3) := by decide +kernel
theorem dX1_field_57 : decode cX1_field 57 = .ok (.iconst 0, 1) := by decide +kernel
theorem dX1_field_58 : decode cX1_field 58 = .ok (.invokevirtual 216, 3) := by decide +kernel
theorem dX1_field_61 : decode cX1_field 61 = .ok (.ireturn, 1) := by decide +kernel
theorem dX1_field_62 : decode cX1_field 62 = .ok (.aload_n 0, 1) := by decide +kernel
theorem dX1_field_63 : decode cX1_field 63 = .ok (.aload_n 1, 1) := by decide +kernel
theorem dX1_field_64 : decode cX1_field 64 = .ok (.aload_n 0, 1) := by decide +kernel
theorem dX1_field_65 : decode cX1_field 65 = .ok (.getfield 117, 3) := by decide +kernel
theorem dX1_field_68 : decode cX1_field 68 = .ok (.aload_n 0, 1) := by decide +kernel
theorem dX1_field_69 : decode cX1_field 69 = .ok (.getfield 29, 3) := by decide +kernel
theorem dX1_field_72 : decode cX1_field 72 = .ok (.invokevirtual 91, 3) := by decide +kernel
theorem dX1_field_75 : decode cX1_field 75 = .ok (.iconst 1, 1) := by decide +kernel
theorem dX1_field_76 : decode cX1_field 76 = .ok (.invokevirtual 216, 3) := by decide +kernel
theorem dX1_field_79 : decode cX1_field 79 = .ok (.ireturn, 1) := by decide +kernel
theorem dX1_field_80 : decode cX1_field 80 = .ok (.aload_n 1, 1) := by decide +kernel
theorem dX1_field_81 : decode cX1_field 81 = .ok (.getfield 181, 3) := by decide +kernel
theorem dX1_field_84 : decode cX1_field 84 = .ok (.ireturn, 1) := by decide +kernel
theorem dX1_field_85 : decode cX1_field 85 = .ok (.aload_n 1, 1) := by decide +kernel
theorem dX1_field_86 : decode cX1_field 86 = .ok (.getfield 141, 3) := by decide +kernel
theorem dX1_field_89 : decode cX1_field 89 = .ok (.ireturn, 1) := by decide +kernel
theorem dX1_field_90 : decode cX1_field 90 = .ok (.aload_n 0, 1) := by decide +kernel
theorem dX1_field_91 : decode cX1_field 91 = .ok (.getfield 117, 3) := by decide +kernel
theorem dX1_field_94 : decode cX1_field 94 = .ok (.aload_n 1, 1) := by decide +kernel
theorem dX1_field_95 : decode cX1_field 95 = .ok (.getfield 201, 3) := by decide +kernel
theorem dX1_field_98 : decode cX1_field 98 = .ok (.isub, 1) := by decide +kernel
theorem dX1_field_99 : decode cX1_field 99 = .ok (.ireturn, 1) := by decide +kernel
theorem dX1_field_100 : decode cX1_field 100 = .ok (.aload_n 0, 1) := by decide +kernel
theorem dX1_field_101 : decode cX1_field 101 = .ok (.aload_n 1, 1) := by decide +kernel
theorem dX1_field_102 : decode cX1_field 102 = .ok (.invokevirtual 220, 3) := by decide +kernel
theorem dX1_field_105 : decode cX1_field 105 = .ok (.ireturn, 1) := by decide +kernel
theorem dX1_field_106 : decode cX1_field 106 = .ok (.aload_n 1, 1) := by decide +kernel
theorem dX1_field_107 : decode cX1_field 107 = .ok (.invokevirtual 223, 3) := by decide +kernel
theorem dX1_field_110 : decode cX1_field 110 = .ok (.ifCond .eq 7, 3) := by decide +kernel
theorem dX1_field_113 : decode cX1_field 113 = .ok (.iconst 1, 1) := by decide +kernel
theorem dX1_field_114 : decode cX1_field 114 = .ok (.goto 4, 3) := by decide +kernel
theorem dX1_field_117 : decode cX1_field 117 = .ok (.iconst 0, 1) := by decide +kernel
theorem dX1_field_118 : decode cX1_field 118 = .ok (.ireturn, 1) := by decide +kernel
theorem dX1_field_119 : decode cX1_field 119 = .ok (.aload_n 0, 1) := by decide +kernel
theorem dX1_field_120 : decode cX1_field 120 = .ok (.getfield 117, 3) := by decide +kernel
theorem dX1_field_123 : decode cX1_field 123 = .ok (.bipush 24, 2) := by decide +kernel
theorem dX1_field_125 : decode cX1_field 125 = .ok (.idiv, 1) := by decide +kernel
theorem dX1_field_126 : decode cX1_field 126 = .ok (.ireturn, 1) := by decide +kernel
theorem dX1_sour_0 : decode cX1_sour 0 = .ok (.aload_n 0, 1) := by decide +kernel
theorem dX1_sour_1 : decode cX1_sour 1 = .ok (.aload_n 1, 1) := by decide +kernel
theorem dX1_sour_2 : decode cX1_sour 2 = .ok (.iload_n 2, 1) := by decide +kernel
theorem dX1_sour_3 : decode cX1_sour 3 = .ok (.iload_n 3, 1) := by decide +kernel
theorem dX1_sour_4 : decode cX1_sour 4 = .ok (.invokevirtual 204, 3) := by decide +kernel
theorem dX1_sour_7 : decode cX1_sour 7 = .ok (.astore 5, 2) := by decide +kernel
theorem dX1_sour_9 : decode cX1_sour 9 = .ok (.aload 5, 2) := by decide +kernel
theorem dX1_sour_11 : decode cX1_sour 11 = .ok (.ifnull 11, 3) := by decide +kernel
theorem dX1_sour_14 : decode cX1_sour 14 = .ok (.aload 5, 2) := by decide +kernel
theorem dX1_sour_16 : decode cX1_sour 16 = .ok (.getfield 207, 3) := by decide +kernel
theorem dX1_sour_19 : decode cX1_sour 19 = .ok (.goto 19, 3) := by decide +kernel
theorem dX1_sour_22 : decode cX1_sour 22 = .ok (.iload 4, 2) := by decide +kernel
theorem dX1_sour_24 : decode cX1_sour 24 = .ok (.ifCond .eq 10, 3) := by decide +kernel
theorem dX1_sour_27 : decode cX1_sour 27 = .ok (.aload_n 1, 1) := by decide +kernel
theorem dX1_sour_28 : decode cX1_sour 28 = .ok (.getfield 210, 3) := by decide +kernel
theorem dX1_sour_31 : decode cX1_sour 31 = .ok (.goto 7, 3) := by decide +kernel
theorem dX1_sour_34 : decode cX1_sour 34 = .ok (.aload_n 1, 1) := by decide +kernel
theorem dX1_sour_35 : decode cX1_sour 35 = .ok (.getfield 213, 3) := by decide +kernel
theorem dX1_sour_38 : decode cX1_sour 38 = .ok (.istore 6, 2) := by decide +kernel
theorem dX1_sour_40 : decode cX1_sour 40 = .ok (.aload 5, 2) := by decide +kernel
theorem dX1_sour_42 : decode cX1_sour 42 = .ok (.ifnull 11, 3) := by decide +kernel
theorem dX1_sour_45 : decode cX1_sour 45 = .ok (.aload 5, 2) := by decide +kernel
theorem dX1_sour_47 : decode cX1_sour 47 = .ok (.getfield 199, 3) := by decide +kernel
theorem dX1_sour_50 : decode cX1_sour 50 = .ok (.goto 7, 3) := by decide +kernel
theorem dX1_sour_53 : decode cX1_sour 53 = .ok (.aload_n 1, 1) := by decide +kernel
theorem dX1_sour_54 : decode cX1_sour 54 = .ok (.getfield 201, 3) := by decide +kernel
theorem dX1_sour_57 : decode cX1_sour 57 = .ok (.istore 7, 2) := by decide +kernel
theorem dX1_sour_59 : decode cX1_sour 59 = .ok (.iload 7, 2) := by decide +kernel
theorem dX1_sour_61 : decode cX1_sour 61 = .ok (.iload_n 2, 1) := by decide +kernel
theorem dX1_sour_62 : decode cX1_sour 62 = .ok (.if_icmp .ge 48, 3) := by decide +kernel
theorem dX1_sour_65 : decode cX1_sour 65 = .ok (.iload 6, 2) := by decide +kernel
theorem dX1_sour_67 : decode cX1_sour 67 = .ok (.iload 4, 2) := by decide +kernel
theorem dX1_sour_69 : decode cX1_sour 69 = .ok (.ifCond .eq 25, 3) := by decide +kernel
theorem dX1_sour_72 : decode cX1_sour 72 = .ok (.aload_n 1, 1) := by decide +kernel
theorem dX1_sour_73 : decode cX1_sour 73 = .ok (.getfield 175, 3) := by decide +kernel
theorem dX1_sour_76 : decode cX1_sour 76 = .ok (.iload 7, 2) := by decide +kernel
theorem dX1_sour_78 : decode cX1_sour 78 = .ok (.baload, 1) := by decide +kernel
theorem dX1_sour_79 : decode cX1_sour 79 = .ok (.aload_n 1, 1) := by decide +kernel
theorem dX1_sour_80 : decode cX1_sour 80 = .ok (.getfield 175, 3) := by decide +kernel
theorem dX1_sour_83 : decode cX1_sour 83 = .ok (.iload 7, 2) := by decide +kernel
theorem dX1_sour_85 : decode cX1_sour 85 = .ok (.baload, 1) := by decide +kernel
theorem dX1_sour_86 : decode cX1_sour 86 = .ok (.iconst 2, 1) := by decide +kernel
theorem dX1_sour_87 : decode cX1_sour 87 = .ok (.idiv, 1) := by decide +kernel
theorem dX1_sour_88 : decode cX1_sour 88 = .ok (.iadd, 1) := by decide +kernel
theorem dX1_sour_89 : decode cX1_sour 89 = .ok (.iconst 1, 1) := by decide +kernel
theorem dX1_sour_90 : decode cX1_sour 90 = .ok (.iadd, 1) := by decide +kernel
theorem dX1_sour_91 : decode cX1_sour 91 = .ok (.goto 10, 3) := by decide +kernel
theorem dX1_sour_94 : decode cX1_sour 94 = .ok (.aload_n 1, 1) := by decide +kernel
theorem dX1_sour_95 : decode cX1_sour 95 = .ok (.getfield 175, 3) := by decide +kernel
theorem dX1_sour_98 : decode cX1_sour 98 = .ok (.iload 7, 2) := by decide +kernel
theorem dX1_sour_100 : decode cX1_sour 100 = .ok (.baload, 1) := by decide +kernel
theorem dX1_sour_101 : decode cX1_sour 101 = .ok (.iadd, 1) := by decide +kernel
theorem dX1_sour_102 : decode cX1_sour 102 = .ok (.istore 6, 2) := by decide +kernel
theorem dX1_sour_104 : decode cX1_sour 104 = .ok (.iinc 7 1, 3) := by decide +kernel
theorem dX1_sour_107 : decode cX1_sour 107 = .ok (.goto (-48), 3) := by decide +kernel
theorem dX1_sour_110 : decode cX1_sour 110 = .ok (.sipush 1000, 3) := by decide +kernel
theorem dX1_sour_113 : decode cX1_sour 113 = .ok (.iload 6, 2) := by decide +kernel
theorem dX1_sour_115 : decode cX1_sour 115 = .ok (.invokestatic 184, 3) := by decide +kernel
theorem dX1_sour_118 : decode cX1_sour 118 = .ok (.ireturn, 1) := by decide +kernel
theorem dX1_latest_0 : decode cX1_latest 0 = .ok (.aconst_null, 1) := by decide +kernel
theorem dX1_latest_1 : decode cX1_latest 1 = .ok (.astore 4, 2) := by decide +kernel
theorem dX1_latest_3 : decode cX1_latest 3 = .ok (.iconst 0, 1) := by decide +kernel
theorem dX1_latest_4 : decode cX1_latest 4 = .ok (.istore 5, 2) := by decide +kernel
theorem dX1_latest_6 : decode cX1_latest 6 = .ok (.iload 5, 2) := by decide +kernel
theorem dX1_latest_8 : decode cX1_latest 8 = .ok (.iload_n 3, 1) := by decide +kernel
theorem dX1_latest_9 : decode cX1_latest 9 = .ok (.if_icmp .ge 75, 3) := by decide +kernel
theorem dX1_latest_12 : decode cX1_latest 12 = .ok (.aload_n 0, 1) := by decide +kernel
theorem dX1_latest_13 : decode cX1_latest 13 = .ok (.getfield 29, 3) := by decide +kernel
theorem dX1_latest_16 : decode cX1_latest 16 = .ok (.iload 5, 2) := by decide +kernel
theorem dX1_latest_18 : decode cX1_latest 18 = .ok (.invokevirtual 98, 3) := by decide +kernel
theorem dX1_latest_21 : decode cX1_latest 21 = .ok (.checkcast 193, 3) := by decide +kernel
theorem dX1_latest_24 : decode cX1_latest 24 = .ok (.astore 6, 2) := by decide +kernel
theorem dX1_latest_26 : decode cX1_latest 26 = .ok (.aload 6, 2) := by decide +kernel
theorem dX1_latest_28 : decode cX1_latest 28 = .ok (.getfield 195, 3) := by decide +kernel
theorem dX1_latest_31 : decode cX1_latest 31 = .ok (.aload_n 1, 1) := by decide +kernel
theorem dX1_latest_32 : decode cX1_latest 32 = .ok (.if_acmp .ne 46, 3) := by decide +kernel
theorem dX1_latest_35 : decode cX1_latest 35 = .ok (.aload 6, 2) := by decide +kernel
theorem dX1_latest_37 : decode cX1_latest 37 = .ok (.getfield 199, 3) := by decide +kernel
theorem dX1_latest_40 : decode cX1_latest 40 = .ok (.aload_n 1, 1) := by decide +kernel
theorem dX1_latest_41 : decode cX1_latest 41 = .ok (.getfield 201, 3) := by decide +kernel
theorem dX1_latest_44 : decode cX1_latest 44 = .ok (.if_icmp .lt 34, 3) := by decide +kernel
theorem dX1_latest_47 : decode cX1_latest 47 = .ok (.aload 6, 2) := by decide +kernel
theorem dX1_latest_49 : decode cX1_latest 49 = .ok (.getfield 199, 3) := by decide +kernel
theorem dX1_latest_52 : decode cX1_latest 52 = .ok (.iload_n 2, 1) := by decide +kernel
theorem dX1_latest_53 : decode cX1_latest 53 = .ok (.if_icmp .gt 25, 3) := by decide +kernel
theorem dX1_latest_56 : decode cX1_latest 56 = .ok (.aload 4, 2) := by decide +kernel
theorem dX1_latest_58 : decode cX1_latest 58 = .ok (.ifnull 16, 3) := by decide +kernel
theorem dX1_latest_61 : decode cX1_latest 61 = .ok (.aload 6, 2) := by decide +kernel
theorem dX1_latest_63 : decode cX1_latest 63 = .ok (.getfield 199, 3) := by decide +kernel
theorem dX1_latest_66 : decode cX1_latest 66 = .ok (.aload 4, 2) := by decide +kernel
theorem dX1_latest_68 : decode cX1_latest 68 = .ok (.getfield 199, 3) := by decide +kernel
theorem dX1_latest_71 : decode cX1_latest 71 = .ok (.if_icmp .lt 7, 3) := by decide +kernel
theorem dX1_latest_74 : decode cX1_latest 74 = .ok (.aload 6, 2) := by decide +kernel
theorem dX1_latest_76 : decode cX1_latest 76 = .ok (.astore 4, 2) := by decide +kernel
theorem dX1_latest_78 : decode cX1_latest 78 = .ok (.iinc 5 1, 3) := by decide +kernel
theorem dX1_latest_81 : decode cX1_latest 81 = .ok (.goto (-75), 3) := by decide +kernel
theorem dX1_latest_84 : decode cX1_latest 84 = .ok (.aload 4, 2) := by decide +kernel
theorem dX1_latest_86 : decode cX1_latest 86 = .ok (.areturn, 1) := by decide +kernel
theorem dX1_testsOf_0 : decode cX1_testsOf 0 = .ok (.iconst 0, 1) := by decide +kernel
theorem dX1_testsOf_1 : decode cX1_testsOf 1 = .ok (.istore_n 2, 1) := by decide +kernel
theorem dX1_testsOf_2 : decode cX1_testsOf 2 = .ok (.iconst 0, 1) := by decide +kernel
theorem dX1_testsOf_3 : decode cX1_testsOf 3 = .ok (.istore_n 3, 1) := by decide +kernel
theorem dX1_testsOf_4 : decode cX1_testsOf 4 = .ok (.iload_n 3, 1) := by decide +kernel
theorem dX1_testsOf_5 : decode cX1_testsOf 5 = .ok (.aload_n 0, 1) := by decide +kernel
theorem dX1_testsOf_6 : decode cX1_testsOf 6 = .ok (.getfield 29, 3) := by decide +kernel
theorem dX1_testsOf_9 : decode cX1_testsOf 9 = .ok (.invokevirtual 91, 3) := by decide +kernel
theorem dX1_testsOf_12 : decode cX1_testsOf 12 = .ok (.if_icmp .ge 56, 3) := by decide +kernel
theorem dX1_testsOf_15 : decode cX1_testsOf 15 = .ok (.iload_n 2, 1) := by decide +kernel
theorem dX1_testsOf_16 : decode cX1_testsOf 16 = .ok (.aload_n 0, 1) := by decide +kernel
theorem dX1_testsOf_17 : decode cX1_testsOf 17 = .ok (.getfield 29, 3) := by decide +kernel
theorem dX1_testsOf_20 : decode cX1_testsOf 20 = .ok (.iload_n 3, 1) := by decide +kernel
theorem dX1_testsOf_21 : decode cX1_testsOf 21 = .ok (.invokevirtual 98, 3) := by decide +kernel
theorem dX1_testsOf_24 : decode cX1_testsOf 24 = .ok (.checkcast 193, 3) := by decide +kernel
theorem dX1_testsOf_27 : decode cX1_testsOf 27 = .ok (.getfield 195, 3) := by decide +kernel
theorem dX1_testsOf_30 : decode cX1_testsOf 30 = .ok (.aload_n 1, 1) := by decide +kernel
theorem dX1_testsOf_31 : decode cX1_testsOf 31 = .ok (.if_acmp .ne 28, 3) := by decide +kernel
theorem dX1_testsOf_34 : decode cX1_testsOf 34 = .ok (.aload_n 0, 1) := by decide +kernel
theorem dX1_testsOf_35 : decode cX1_testsOf 35 = .ok (.getfield 29, 3) := by decide +kernel
theorem dX1_testsOf_38 : decode cX1_testsOf 38 = .ok (.iload_n 3, 1) := by decide +kernel
theorem dX1_testsOf_39 : decode cX1_testsOf 39 = .ok (.invokevirtual 98, 3) := by decide +kernel
theorem dX1_testsOf_42 : decode cX1_testsOf 42 = .ok (.checkcast 193, 3) := by decide +kernel
theorem dX1_testsOf_45 : decode cX1_testsOf 45 = .ok (.getfield 199, 3) := by decide +kernel
theorem dX1_testsOf_48 : decode cX1_testsOf 48 = .ok (.aload_n 1, 1) := by decide +kernel
theorem dX1_testsOf_49 : decode cX1_testsOf 49 = .ok (.getfield 201, 3) := by decide +kernel
theorem dX1_testsOf_52 : decode cX1_testsOf 52 = .ok (.if_icmp .lt 7, 3) := by decide +kernel
theorem dX1_testsOf_55 : decode cX1_testsOf 55 = .ok (.iconst 1, 1) := by decide +kernel
theorem dX1_testsOf_56 : decode cX1_testsOf 56 = .ok (.goto 4, 3) := by decide +kernel
theorem dX1_testsOf_59 : decode cX1_testsOf 59 = .ok (.iconst 0, 1) := by decide +kernel
theorem dX1_testsOf_60 : decode cX1_testsOf 60 = .ok (.iadd, 1) := by decide +kernel
theorem dX1_testsOf_61 : decode cX1_testsOf 61 = .ok (.istore_n 2, 1) := by decide +kernel
theorem dX1_testsOf_62 : decode cX1_testsOf 62 = .ok (.iinc 3 1, 3) := by decide +kernel
theorem dX1_testsOf_65 : decode cX1_testsOf 65 = .ok (.goto (-61), 3) := by decide +kernel
theorem dX1_testsOf_68 : decode cX1_testsOf 68 = .ok (.iload_n 2, 1) := by decide +kernel
theorem dX1_testsOf_69 : decode cX1_testsOf 69 = .ok (.ireturn, 1) := by decide +kernel
theorem dX1_free_0 : decode cX1_free 0 = .ok (.iload_n 1, 1) := by decide +kernel
theorem dX1_free_1 : decode cX1_free 1 = .ok (.istore_n 3, 1) := by decide +kernel
theorem dX1_free_2 : decode cX1_free 2 = .ok (.iload_n 3, 1) := by decide +kernel
theorem dX1_free_3 : decode cX1_free 3 = .ok (.iload_n 2, 1) := by decide +kernel
theorem dX1_free_4 : decode cX1_free 4 = .ok (.if_icmp .ge 19, 3) := by decide +kernel
theorem dX1_free_7 : decode cX1_free 7 = .ok (.aload_n 0, 1) := by decide +kernel
theorem dX1_free_8 : decode cX1_free 8 = .ok (.iload_n 3, 1) := by decide +kernel
theorem dX1_free_9 : decode cX1_free 9 = .ok (.invokevirtual 113, 3) := by decide +kernel
theorem dX1_free_12 : decode cX1_free 12 = .ok (.ifCond .eq 5, 3) := by decide +kernel
theorem dX1_free_15 : decode cX1_free 15 = .ok (.iload_n 3, 1) := by decide +kernel
theorem dX1_free_16 : decode cX1_free 16 = .ok (.ireturn, 1) := by decide +kernel
theorem dX1_free_17 : decode cX1_free 17 = .ok (.iinc 3 1, 3) := by decide +kernel
theorem dX1_free_20 : decode cX1_free 20 = .ok (.goto (-18), 3) := by decide +kernel
theorem dX1_free_23 : decode cX1_free 23 = .ok (.iconst (-1), 1) := by decide +kernel
theorem dX1_free_24 : decode cX1_free 24 = .ok (.ireturn, 1) := by decide +kernel
theorem dX1_wastes_0 : decode cX1_wastes 0 = .ok (.aload_n 0, 1) := by decide +kernel
theorem dX1_wastes_1 : decode cX1_wastes 1 = .ok (.dup, 1) := by decide +kernel
theorem dX1_wastes_2 : decode cX1_wastes 2 = .ok (.getfield 144, 3) := by decide +kernel
theorem dX1_wastes_5 : decode cX1_wastes 5 = .ok (.aload_n 1, 1) := by decide +kernel
theorem dX1_wastes_6 : decode cX1_wastes 6 = .ok (.invokevirtual 134, 3) := by decide +kernel
theorem dX1_wastes_9 : decode cX1_wastes 9 = .ok (.iadd, 1) := by decide +kernel
theorem dX1_wastes_10 : decode cX1_wastes 10 = .ok (.putfield 144, 3) := by decide +kernel
theorem dX1_wastes_13 : decode cX1_wastes 13 = .ok (.iconst 0, 1) := by decide +kernel
theorem dX1_wastes_14 : decode cX1_wastes 14 = .ok (.istore_n 3, 1) := by decide +kernel
theorem dX1_wastes_15 : decode cX1_wastes 15 = .ok (.iload_n 3, 1) := by decide +kernel
theorem dX1_wastes_16 : decode cX1_wastes 16 = .ok (.bipush 20, 2) := by decide +kernel
theorem dX1_wastes_18 : decode cX1_wastes 18 = .ok (.if_icmp .ge 31, 3) := by decide +kernel
theorem dX1_wastes_21 : decode cX1_wastes 21 = .ok (.aload_n 0, 1) := by decide +kernel
theorem dX1_wastes_22 : decode cX1_wastes 22 = .ok (.getfield 48, 3) := by decide +kernel
theorem dX1_wastes_25 : decode cX1_wastes 25 = .ok (.iload_n 3, 1) := by decide +kernel
theorem dX1_wastes_26 : decode cX1_wastes 26 = .ok (.dup2, 1) := by decide +kernel
theorem dX1_wastes_27 : decode cX1_wastes 27 = .ok (.iaload, 1) := by decide +kernel
theorem dX1_wastes_28 : decode cX1_wastes 28 = .ok (.aload_n 1, 1) := by decide +kernel
theorem dX1_wastes_29 : decode cX1_wastes 29 = .ok (.getfield 131, 3) := by decide +kernel
theorem dX1_wastes_32 : decode cX1_wastes 32 = .ok (.iload_n 3, 1) := by decide +kernel
theorem dX1_wastes_33 : decode cX1_wastes 33 = .ok (.iaload, 1) := by decide +kernel
theorem dX1_wastes_34 : decode cX1_wastes 34 = .ok (.iadd, 1) := by decide +kernel
theorem dX1_wastes_35 : decode cX1_wastes 35 = .ok (.iastore, 1) := by decide +kernel
theorem dX1_wastes_36 : decode cX1_wastes 36 = .ok (.aload_n 1, 1) := by decide +kernel
theorem dX1_wastes_37 : decode cX1_wastes 37 = .ok (.getfield 131, 3) := by decide +kernel
theorem dX1_wastes_40 : decode cX1_wastes 40 = .ok (.iload_n 3, 1) := by decide +kernel
theorem dX1_wastes_41 : decode cX1_wastes 41 = .ok (.iconst 0, 1) := by decide +kernel
theorem dX1_wastes_42 : decode cX1_wastes 42 = .ok (.iastore, 1) := by decide +kernel
theorem dX1_wastes_43 : decode cX1_wastes 43 = .ok (.iinc 3 1, 3) := by decide +kernel
theorem dX1_wastes_46 : decode cX1_wastes 46 = .ok (.goto (-31), 3) := by decide +kernel
theorem dX1_wastes_49 : decode cX1_wastes 49 = .ok (.aload_n 1, 1) := by decide +kernel
theorem dX1_wastes_50 : decode cX1_wastes 50 = .ok (.iload_n 2, 1) := by decide +kernel
theorem dX1_wastes_51 : decode cX1_wastes 51 = .ok (.invokevirtual 147, 3) := by decide +kernel
theorem dX1_wastes_54 : decode cX1_wastes 54 = .ok (.return_, 1) := by decide +kernel
theorem dX1_rate_0 : decode cX1_rate 0 = .ok (.aload_n 0, 1) := by decide +kernel
theorem dX1_rate_1 : decode cX1_rate 1 = .ok (.getfield 7, 3) := by decide +kernel
theorem dX1_rate_4 : decode cX1_rate 4 = .ok (.iconst 4, 1) := by decide +kernel
theorem dX1_rate_5 : decode cX1_rate 5 = .ok (.aload_n 0, 1) := by decide +kernel
theorem dX1_rate_6 : decode cX1_rate 6 = .ok (.aload_n 1, 1) := by decide +kernel
theorem dX1_rate_7 : decode cX1_rate 7 = .ok (.getfield 112, 3) := by decide +kernel
theorem dX1_rate_10 : decode cX1_rate 10 = .ok (.iconst 4, 1) := by decide +kernel
theorem dX1_rate_11 : decode cX1_rate 11 = .ok (.idiv, 1) := by decide +kernel
theorem dX1_rate_12 : decode cX1_rate 12 = .ok (.aload_n 0, 1) := by decide +kernel
theorem dX1_rate_13 : decode cX1_rate 13 = .ok (.getfield 117, 3) := by decide +kernel
theorem dX1_rate_16 : decode cX1_rate 16 = .ok (.invokevirtual 137, 3) := by decide +kernel
theorem dX1_rate_19 : decode cX1_rate 19 = .ok (.iconst 5, 1) := by decide +kernel
theorem dX1_rate_20 : decode cX1_rate 20 = .ok (.iadd, 1) := by decide +kernel
theorem dX1_rate_21 : decode cX1_rate 21 = .ok (.bipush 8, 2) := by decide +kernel
theorem dX1_rate_23 : decode cX1_rate 23 = .ok (.idiv, 1) := by decide +kernel
theorem dX1_rate_24 : decode cX1_rate 24 = .ok (.imul, 1) := by decide +kernel
theorem dX1_rate_25 : decode cX1_rate 25 = .ok (.aload_n 1, 1) := by decide +kernel
theorem dX1_rate_26 : decode cX1_rate 26 = .ok (.getfield 141, 3) := by decide +kernel
theorem dX1_rate_29 : decode cX1_rate 29 = .ok (.bipush 16, 2) := by decide +kernel
theorem dX1_rate_31 : decode cX1_rate 31 = .ok (.idiv, 1) := by decide +kernel
theorem dX1_rate_32 : decode cX1_rate 32 = .ok (.iadd, 1) := by decide +kernel
theorem dX1_rate_33 : decode cX1_rate 33 = .ok (.iaload, 1) := by decide +kernel
theorem dX1_rate_34 : decode cX1_rate 34 = .ok (.ireturn, 1) := by decide +kernel
theorem dX1_warmthAt_0 : decode cX1_warmthAt 0 = .ok (.aload_n 0, 1) := by decide +kernel
theorem dX1_warmthAt_1 : decode cX1_warmthAt 1 = .ok (.getfield 18, 3) := by decide +kernel
theorem dX1_warmthAt_4 : decode cX1_warmthAt 4 = .ok (.iload_n 1, 1) := by decide +kernel
theorem dX1_warmthAt_5 : decode cX1_warmthAt 5 = .ok (.aaload, 1) := by decide +kernel
theorem dX1_warmthAt_6 : decode cX1_warmthAt 6 = .ok (.astore_n 3, 1) := by decide +kernel
theorem dX1_warmthAt_7 : decode cX1_warmthAt 7 = .ok (.aload_n 3, 1) := by decide +kernel
theorem dX1_warmthAt_8 : decode cX1_warmthAt 8 = .ok (.ifnonnull 7, 3) := by decide +kernel
theorem dX1_warmthAt_11 : decode cX1_warmthAt 11 = .ok (.iconst (-1), 1) := by decide +kernel
theorem dX1_warmthAt_12 : decode cX1_warmthAt 12 = .ok (.goto 4, 3) := by decide +kernel
theorem dX1_warmthAt_15 : decode cX1_warmthAt 15 = .ok (.iload_n 2, 1) := by decide +kernel
theorem dX1_warmthAt_16 : decode cX1_warmthAt 16 = .ok (.istore 4, 2) := by decide +kernel
theorem dX1_warmthAt_18 : decode cX1_warmthAt 18 = .ok (.iload 4, 2) := by decide +kernel
theorem dX1_warmthAt_20 : decode cX1_warmthAt 20 = .ok (.ifCond .lt 18, 3) := by decide +kernel
theorem dX1_warmthAt_23 : decode cX1_warmthAt 23 = .ok (.aload_n 3, 1) := by decide +kernel
theorem dX1_warmthAt_24 : decode cX1_warmthAt 24 = .ok (.iload 4, 2) := by decide +kernel
theorem dX1_warmthAt_26 : decode cX1_warmthAt 26 = .ok (.baload, 1) := by decide +kernel
theorem dX1_warmthAt_27 : decode cX1_warmthAt 27 = .ok (.bipush 100, 2) := by decide +kernel
theorem dX1_warmthAt_29 : decode cX1_warmthAt 29 = .ok (.if_icmp .ne 9, 3) := by decide +kernel
theorem dX1_warmthAt_32 : decode cX1_warmthAt 32 = .ok (.iinc 4 (-1), 3) := by decide +kernel
theorem dX1_warmthAt_35 : decode cX1_warmthAt 35 = .ok (.goto (-17), 3) := by decide +kernel
theorem dX1_warmthAt_38 : decode cX1_warmthAt 38 = .ok (.iload 4, 2) := by decide +kernel
theorem dX1_warmthAt_40 : decode cX1_warmthAt 40 = .ok (.ifCond .ge 8, 3) := by decide +kernel
theorem dX1_warmthAt_43 : decode cX1_warmthAt 43 = .ok (.bipush 15, 2) := by decide +kernel
theorem dX1_warmthAt_45 : decode cX1_warmthAt 45 = .ok (.goto 7, 3) := by decide +kernel
theorem dX1_warmthAt_48 : decode cX1_warmthAt 48 = .ok (.aload_n 3, 1) := by decide +kernel
theorem dX1_warmthAt_49 : decode cX1_warmthAt 49 = .ok (.iload 4, 2) := by decide +kernel
theorem dX1_warmthAt_51 : decode cX1_warmthAt 51 = .ok (.baload, 1) := by decide +kernel
theorem dX1_warmthAt_52 : decode cX1_warmthAt 52 = .ok (.ireturn, 1) := by decide +kernel
theorem dX1_test_0 : decode cX1_test 0 = .ok (.aload_n 0, 1) := by decide +kernel
theorem dX1_test_1 : decode cX1_test 1 = .ok (.iload_n 1, 1) := by decide +kernel
theorem dX1_test_2 : decode cX1_test 2 = .ok (.invokevirtual 127, 3) := by decide +kernel
theorem dX1_test_5 : decode cX1_test 5 = .ok (.astore 4, 2) := by decide +kernel
theorem dX1_test_7 : decode cX1_test 7 = .ok (.aload 4, 2) := by decide +kernel
theorem dX1_test_9 : decode cX1_test 9 = .ok (.ifnull 42, 3) := by decide +kernel
theorem dX1_test_12 : decode cX1_test 12 = .ok (.iload_n 2, 1) := by decide +kernel
theorem dX1_test_13 : decode cX1_test 13 = .ok (.aload 4, 2) := by decide +kernel
theorem dX1_test_15 : decode cX1_test 15 = .ok (.getfield 201, 3) := by decide +kernel
theorem dX1_test_18 : decode cX1_test 18 = .ok (.aload_n 0, 1) := by decide +kernel
theorem dX1_test_19 : decode cX1_test 19 = .ok (.getfield 117, 3) := by decide +kernel
theorem dX1_test_22 : decode cX1_test 22 = .ok (.invokestatic 94, 3) := by decide +kernel
theorem dX1_test_25 : decode cX1_test 25 = .ok (.ifCond .eq 26, 3) := by decide +kernel
theorem dX1_test_28 : decode cX1_test 28 = .ok (.iload_n 3, 1) := by decide +kernel
theorem dX1_test_29 : decode cX1_test 29 = .ok (.iconst 0, 1) := by decide +kernel
theorem dX1_test_30 : decode cX1_test 30 = .ok (.sipush 1000, 3) := by decide +kernel
theorem dX1_test_33 : decode cX1_test 33 = .ok (.invokestatic 94, 3) := by decide +kernel
theorem dX1_test_36 : decode cX1_test 36 = .ok (.ifCond .eq 15, 3) := by decide +kernel
theorem dX1_test_39 : decode cX1_test 39 = .ok (.aload_n 0, 1) := by decide +kernel
theorem dX1_test_40 : decode cX1_test 40 = .ok (.getfield 29, 3) := by decide +kernel
theorem dX1_test_43 : decode cX1_test 43 = .ok (.invokevirtual 91, 3) := by decide +kernel
theorem dX1_test_46 : decode cX1_test 46 = .ok (.bipush 100, 2) := by decide +kernel
theorem dX1_test_48 : decode cX1_test 48 = .ok (.if_icmp .ne 5, 3) := by decide +kernel
theorem dX1_test_51 : decode cX1_test 51 = .ok (.iconst (-1), 1) := by decide +kernel
theorem dX1_test_52 : decode cX1_test 52 = .ok (.ireturn, 1) := by decide +kernel
theorem dX1_test_53 : decode cX1_test 53 = .ok (.aload_n 0, 1) := by decide +kernel
theorem dX1_test_54 : decode cX1_test 54 = .ok (.getfield 29, 3) := by decide +kernel
theorem dX1_test_57 : decode cX1_test 57 = .ok (.new 193, 3) := by decide +kernel
theorem dX1_test_60 : decode cX1_test 60 = .ok (.dup, 1) := by decide +kernel
theorem dX1_test_61 : decode cX1_test 61 = .ok (.aload 4, 2) := by decide +kernel
theorem dX1_test_63 : decode cX1_test 63 = .ok (.iload_n 2, 1) := by decide +kernel
theorem dX1_test_64 : decode cX1_test 64 = .ok (.iload_n 3, 1) := by decide +kernel
theorem dX1_test_65 : decode cX1_test 65 = .ok (.invokespecial 226, 3) := by decide +kernel
theorem dX1_test_68 : decode cX1_test 68 = .ok (.invokevirtual 123, 3) := by decide +kernel
theorem dX1_test_71 : decode cX1_test 71 = .ok (.pop, 1) := by decide +kernel
theorem dX1_test_72 : decode cX1_test 72 = .ok (.aload_n 0, 1) := by decide +kernel
theorem dX1_test_73 : decode cX1_test 73 = .ok (.getfield 29, 3) := by decide +kernel
theorem dX1_test_76 : decode cX1_test 76 = .ok (.invokevirtual 91, 3) := by decide +kernel
theorem dX1_test_79 : decode cX1_test 79 = .ok (.iconst 1, 1) := by decide +kernel
theorem dX1_test_80 : decode cX1_test 80 = .ok (.isub, 1) := by decide +kernel
theorem dX1_test_81 : decode cX1_test 81 = .ok (.ireturn, 1) := by decide +kernel
theorem dX1_span_0 : decode cX1_span 0 = .ok (.aload_n 0, 1) := by decide +kernel
theorem dX1_span_1 : decode cX1_span 1 = .ok (.iload_n 1, 1) := by decide +kernel
theorem dX1_span_2 : decode cX1_span 2 = .ok (.invokevirtual 127, 3) := by decide +kernel
theorem dX1_span_5 : decode cX1_span 5 = .ok (.astore 5, 2) := by decide +kernel
theorem dX1_span_7 : decode cX1_span 7 = .ok (.aload 5, 2) := by decide +kernel
theorem dX1_span_9 : decode cX1_span 9 = .ok (.ifnull 44, 3) := by decide +kernel
theorem dX1_span_12 : decode cX1_span 12 = .ok (.iload_n 2, 1) := by decide +kernel
theorem dX1_span_13 : decode cX1_span 13 = .ok (.aload 5, 2) := by decide +kernel
theorem dX1_span_15 : decode cX1_span 15 = .ok (.getfield 201, 3) := by decide +kernel
theorem dX1_span_18 : decode cX1_span 18 = .ok (.aload_n 0, 1) := by decide +kernel
theorem dX1_span_19 : decode cX1_span 19 = .ok (.getfield 117, 3) := by decide +kernel
theorem dX1_span_22 : decode cX1_span 22 = .ok (.invokestatic 94, 3) := by decide +kernel
theorem dX1_span_25 : decode cX1_span 25 = .ok (.ifCond .eq 28, 3) := by decide +kernel
theorem dX1_span_28 : decode cX1_span 28 = .ok (.iload_n 3, 1) := by decide +kernel
theorem dX1_span_29 : decode cX1_span 29 = .ok (.iconst 0, 1) := by decide +kernel
theorem dX1_span_30 : decode cX1_span 30 = .ok (.aload_n 0, 1) := by decide +kernel
theorem dX1_span_31 : decode cX1_span 31 = .ok (.getfield 29, 3) := by decide +kernel
theorem dX1_span_34 : decode cX1_span 34 = .ok (.invokevirtual 91, 3) := by decide +kernel
theorem dX1_span_37 : decode cX1_span 37 = .ok (.invokestatic 94, 3) := by decide +kernel
theorem dX1_span_40 : decode cX1_span 40 = .ok (.ifCond .eq 13, 3) := by decide +kernel
theorem dX1_span_43 : decode cX1_span 43 = .ok (.iload 4, 2) := by decide +kernel
theorem dX1_span_45 : decode cX1_span 45 = .ok (.iconst 0, 1) := by decide +kernel
theorem dX1_span_46 : decode cX1_span 46 = .ok (.iconst 1, 1) := by decide +kernel
theorem dX1_span_47 : decode cX1_span 47 = .ok (.invokestatic 94, 3) := by decide +kernel
theorem dX1_span_50 : decode cX1_span 50 = .ok (.ifCond .ne 5, 3) := by decide +kernel
theorem dX1_span_53 : decode cX1_span 53 = .ok (.iconst (-1), 1) := by decide +kernel
theorem dX1_span_54 : decode cX1_span 54 = .ok (.ireturn, 1) := by decide +kernel
theorem dX1_span_55 : decode cX1_span 55 = .ok (.aload_n 0, 1) := by decide +kernel
theorem dX1_span_56 : decode cX1_span 56 = .ok (.aload 5, 2) := by decide +kernel
theorem dX1_span_58 : decode cX1_span 58 = .ok (.iload_n 2, 1) := by decide +kernel
theorem dX1_span_59 : decode cX1_span 59 = .ok (.iload_n 3, 1) := by decide +kernel
theorem dX1_span_60 : decode cX1_span 60 = .ok (.iload 4, 2) := by decide +kernel
theorem dX1_span_62 : decode cX1_span 62 = .ok (.iconst 1, 1) := by decide +kernel
theorem dX1_span_63 : decode cX1_span 63 = .ok (.if_icmp .ne 7, 3) := by decide +kernel
theorem dX1_span_66 : decode cX1_span 66 = .ok (.iconst 1, 1) := by decide +kernel
theorem dX1_span_67 : decode cX1_span 67 = .ok (.goto 4, 3) := by decide +kernel
theorem dX1_span_70 : decode cX1_span 70 = .ok (.iconst 0, 1) := by decide +kernel
theorem dX1_span_71 : decode cX1_span 71 = .ok (.invokevirtual 216, 3) := by decide +kernel
theorem dX1_span_74 : decode cX1_span 74 = .ok (.ireturn, 1) := by decide +kernel
theorem dX1_crockOf_0 : decode cX1_crockOf 0 = .ok (.iload_n 1, 1) := by decide +kernel
theorem dX1_crockOf_1 : decode cX1_crockOf 1 = .ok (.iconst 0, 1) := by decide +kernel
theorem dX1_crockOf_2 : decode cX1_crockOf 2 = .ok (.aload_n 0, 1) := by decide +kernel
theorem dX1_crockOf_3 : decode cX1_crockOf 3 = .ok (.getfield 25, 3) := by decide +kernel
theorem dX1_crockOf_6 : decode cX1_crockOf 6 = .ok (.invokevirtual 91, 3) := by decide +kernel
theorem dX1_crockOf_9 : decode cX1_crockOf 9 = .ok (.iconst 1, 1) := by decide +kernel
theorem dX1_crockOf_10 : decode cX1_crockOf 10 = .ok (.isub, 1) := by decide +kernel
theorem dX1_crockOf_11 : decode cX1_crockOf 11 = .ok (.invokestatic 94, 3) := by decide +kernel
theorem dX1_crockOf_14 : decode cX1_crockOf 14 = .ok (.ifCond .ne 5, 3) := by decide +kernel
theorem dX1_crockOf_17 : decode cX1_crockOf 17 = .ok (.iconst (-1), 1) := by decide +kernel
theorem dX1_crockOf_18 : decode cX1_crockOf 18 = .ok (.ireturn, 1) := by decide +kernel
theorem dX1_crockOf_19 : decode cX1_crockOf 19 = .ok (.aload_n 0, 1) := by decide +kernel
theorem dX1_crockOf_20 : decode cX1_crockOf 20 = .ok (.getfield 25, 3) := by decide +kernel
theorem dX1_crockOf_23 : decode cX1_crockOf 23 = .ok (.iload_n 1, 1) := by decide +kernel
theorem dX1_crockOf_24 : decode cX1_crockOf 24 = .ok (.invokevirtual 98, 3) := by decide +kernel
theorem dX1_crockOf_27 : decode cX1_crockOf 27 = .ok (.checkcast 102, 3) := by decide +kernel
theorem dX1_crockOf_30 : decode cX1_crockOf 30 = .ok (.astore_n 3, 1) := by decide +kernel
theorem dX1_crockOf_31 : decode cX1_crockOf 31 = .ok (.iload_n 2, 1) := by decide +kernel
theorem dX1_crockOf_32 : decode cX1_crockOf 32 = .ok (.tableswitch 108 0 7 #[48, 64, 69, 74, 79, 84, 89, 103], 48) := by decide +kernel
theorem dX1_crockOf_80 : decode cX1_crockOf 80 = .ok (.aload_n 3, 1) := by decide +kernel
theorem dX1_crockOf_81 : decode cX1_crockOf 81 = .ok (.invokevirtual 104, 3) := by decide +kernel
theorem dX1_crockOf_84 : decode cX1_crockOf 84 = .ok (.ifCond .eq 10, 3) := by decide +kernel
theorem dX1_crockOf_87 : decode cX1_crockOf 87 = .ok (.aload_n 3, 1) := by decide +kernel
theorem dX1_crockOf_88 : decode cX1_crockOf 88 = .ok (.getfield 112, 3) := by decide +kernel
theorem dX1_crockOf_91 : decode cX1_crockOf 91 = .ok (.goto 4, 3) := by decide +kernel
theorem dX1_crockOf_94 : decode cX1_crockOf 94 = .ok (.iconst (-1), 1) := by decide +kernel
theorem dX1_crockOf_95 : decode cX1_crockOf 95 = .ok (.ireturn, 1) := by decide +kernel
theorem dX1_crockOf_96 : decode cX1_crockOf 96 = .ok (.aload_n 3, 1) := by decide +kernel
theorem dX1_crockOf_97 : decode cX1_crockOf 97 = .ok (.getfield 229, 3) := by decide +kernel
theorem dX1_crockOf_100 : decode cX1_crockOf 100 = .ok (.ireturn, 1) := by decide +kernel
theorem dX1_crockOf_101 : decode cX1_crockOf 101 = .ok (.aload_n 3, 1) := by decide +kernel
theorem dX1_crockOf_102 : decode cX1_crockOf 102 = .ok (.getfield 141, 3) := by decide +kernel
theorem dX1_crockOf_105 : decode cX1_crockOf 105 = .ok (.ireturn, 1) := by decide +kernel
theorem dX1_crockOf_106 : decode cX1_crockOf 106 = .ok (.aload_n 3, 1) := by decide +kernel
theorem dX1_crockOf_107 : decode cX1_crockOf 107 = .ok (.getfield 181, 3) := by decide +kernel
theorem dX1_crockOf_110 : decode cX1_crockOf 110 = .ok (.ireturn, 1) := by decide +kernel
theorem dX1_crockOf_111 : decode cX1_crockOf 111 = .ok (.aload_n 3, 1) := by decide +kernel
theorem dX1_crockOf_112 : decode cX1_crockOf 112 = .ok (.getfield 201, 3) := by decide +kernel
theorem dX1_crockOf_115 : decode cX1_crockOf 115 = .ok (.ireturn, 1) := by decide +kernel
theorem dX1_crockOf_116 : decode cX1_crockOf 116 = .ok (.aload_n 3, 1) := by decide +kernel
theorem dX1_crockOf_117 : decode cX1_crockOf 117 = .ok (.invokevirtual 134, 3) := by decide +kernel
theorem dX1_crockOf_120 : decode cX1_crockOf 120 = .ok (.ireturn, 1) := by decide +kernel
theorem dX1_crockOf_121 : decode cX1_crockOf 121 = .ok (.aload_n 0, 1) := by decide +kernel
theorem dX1_crockOf_122 : decode cX1_crockOf 122 = .ok (.aload_n 3, 1) := by decide +kernel
theorem dX1_crockOf_123 : decode cX1_crockOf 123 = .ok (.invokevirtual 235, 3) := by decide +kernel
theorem dX1_crockOf_126 : decode cX1_crockOf 126 = .ok (.ifCond .eq 7, 3) := by decide +kernel
theorem dX1_crockOf_129 : decode cX1_crockOf 129 = .ok (.iconst 1, 1) := by decide +kernel
theorem dX1_crockOf_130 : decode cX1_crockOf 130 = .ok (.goto 4, 3) := by decide +kernel
theorem dX1_crockOf_133 : decode cX1_crockOf 133 = .ok (.iconst 0, 1) := by decide +kernel
theorem dX1_crockOf_134 : decode cX1_crockOf 134 = .ok (.ireturn, 1) := by decide +kernel
theorem dX1_crockOf_135 : decode cX1_crockOf 135 = .ok (.aload_n 3, 1) := by decide +kernel
theorem dX1_crockOf_136 : decode cX1_crockOf 136 = .ok (.getfield 178, 3) := by decide +kernel
theorem dX1_crockOf_139 : decode cX1_crockOf 139 = .ok (.ireturn, 1) := by decide +kernel
theorem dX1_crockOf_140 : decode cX1_crockOf 140 = .ok (.iconst (-1), 1) := by decide +kernel
theorem dX1_crockOf_141 : decode cX1_crockOf 141 = .ok (.ireturn, 1) := by decide +kernel
theorem dX1_isFit_0 : decode cX1_isFit 0 = .ok (.aload_n 1, 1) := by decide +kernel
theorem dX1_isFit_1 : decode cX1_isFit 1 = .ok (.getfield 229, 3) := by decide +kernel
theorem dX1_isFit_4 : decode cX1_isFit 4 = .ok (.iconst 1, 1) := by decide +kernel
theorem dX1_isFit_5 : decode cX1_isFit 5 = .ok (.if_icmp .ne 22, 3) := by decide +kernel
theorem dX1_isFit_8 : decode cX1_isFit 8 = .ok (.aload_n 0, 1) := by decide +kernel
theorem dX1_isFit_9 : decode cX1_isFit 9 = .ok (.aload_n 1, 1) := by decide +kernel
theorem dX1_isFit_10 : decode cX1_isFit 10 = .ok (.aload_n 0, 1) := by decide +kernel
theorem dX1_isFit_11 : decode cX1_isFit 11 = .ok (.getfield 117, 3) := by decide +kernel
theorem dX1_isFit_14 : decode cX1_isFit 14 = .ok (.aload_n 0, 1) := by decide +kernel
theorem dX1_isFit_15 : decode cX1_isFit 15 = .ok (.getfield 29, 3) := by decide +kernel
theorem dX1_isFit_18 : decode cX1_isFit 18 = .ok (.invokevirtual 91, 3) := by decide +kernel
theorem dX1_isFit_21 : decode cX1_isFit 21 = .ok (.invokevirtual 204, 3) := by decide +kernel
theorem dX1_isFit_24 : decode cX1_isFit 24 = .ok (.goto 4, 3) := by decide +kernel
theorem dX1_isFit_27 : decode cX1_isFit 27 = .ok (.aconst_null, 1) := by decide +kernel
theorem dX1_isFit_28 : decode cX1_isFit 28 = .ok (.astore_n 2, 1) := by decide +kernel
theorem dX1_isFit_29 : decode cX1_isFit 29 = .ok (.aload_n 2, 1) := by decide +kernel
theorem dX1_isFit_30 : decode cX1_isFit 30 = .ok (.ifnull 25, 3) := by decide +kernel
theorem dX1_isFit_33 : decode cX1_isFit 33 = .ok (.aload_n 2, 1) := by decide +kernel
theorem dX1_isFit_34 : decode cX1_isFit 34 = .ok (.getfield 207, 3) := by decide +kernel
theorem dX1_isFit_37 : decode cX1_isFit 37 = .ok (.aload_n 0, 1) := by decide +kernel
theorem dX1_isFit_38 : decode cX1_isFit 38 = .ok (.getfield 232, 3) := by decide +kernel
theorem dX1_isFit_41 : decode cX1_isFit 41 = .ok (.aload_n 0, 1) := by decide +kernel
theorem dX1_isFit_42 : decode cX1_isFit 42 = .ok (.getfield 45, 3) := by decide +kernel
theorem dX1_isFit_45 : decode cX1_isFit 45 = .ok (.invokestatic 94, 3) := by decide +kernel
theorem dX1_isFit_48 : decode cX1_isFit 48 = .ok (.ifCond .eq 7, 3) := by decide +kernel
theorem dX1_isFit_51 : decode cX1_isFit 51 = .ok (.iconst 1, 1) := by decide +kernel
theorem dX1_isFit_52 : decode cX1_isFit 52 = .ok (.goto 4, 3) := by decide +kernel
theorem dX1_isFit_55 : decode cX1_isFit 55 = .ok (.iconst 0, 1) := by decide +kernel
theorem dX1_isFit_56 : decode cX1_isFit 56 = .ok (.ireturn, 1) := by decide +kernel
theorem dX1_feed_0 : decode cX1_feed 0 = .ok (.aload_n 0, 1) := by decide +kernel
theorem dX1_feed_1 : decode cX1_feed 1 = .ok (.getfield 242, 3) := by decide +kernel
theorem dX1_feed_4 : decode cX1_feed 4 = .ok (.bipush 20, 2) := by decide +kernel
theorem dX1_feed_6 : decode cX1_feed 6 = .ok (.iadd, 1) := by decide +kernel
theorem dX1_feed_7 : decode cX1_feed 7 = .ok (.sipush 300, 3) := by decide +kernel
theorem dX1_feed_10 : decode cX1_feed 10 = .ok (.if_icmp .le 5, 3) := by decide +kernel
theorem dX1_feed_13 : decode cX1_feed 13 = .ok (.iconst (-1), 1) := by decide +kernel
theorem dX1_feed_14 : decode cX1_feed 14 = .ok (.ireturn, 1) := by decide +kernel
theorem dX1_feed_15 : decode cX1_feed 15 = .ok (.iconst 5, 1) := by decide +kernel
theorem dX1_feed_16 : decode cX1_feed 16 = .ok (.newarray .int, 2) := by decide +kernel
theorem dX1_feed_18 : decode cX1_feed 18 = .ok (.dup, 1) := by decide +kernel
theorem dX1_feed_19 : decode cX1_feed 19 = .ok (.iconst 0, 1) := by decide +kernel
theorem dX1_feed_20 : decode cX1_feed 20 = .ok (.iload_n 1, 1) := by decide +kernel
theorem dX1_feed_21 : decode cX1_feed 21 = .ok (.iastore, 1) := by decide +kernel
theorem dX1_feed_22 : decode cX1_feed 22 = .ok (.dup, 1) := by decide +kernel
theorem dX1_feed_23 : decode cX1_feed 23 = .ok (.iconst 1, 1) := by decide +kernel
theorem dX1_feed_24 : decode cX1_feed 24 = .ok (.iload_n 2, 1) := by decide +kernel
theorem dX1_feed_25 : decode cX1_feed 25 = .ok (.iastore, 1) := by decide +kernel
theorem dX1_feed_26 : decode cX1_feed 26 = .ok (.dup, 1) := by decide +kernel
theorem dX1_feed_27 : decode cX1_feed 27 = .ok (.iconst 2, 1) := by decide +kernel
theorem dX1_feed_28 : decode cX1_feed 28 = .ok (.iload_n 3, 1) := by decide +kernel
theorem dX1_feed_29 : decode cX1_feed 29 = .ok (.iastore, 1) := by decide +kernel
theorem dX1_feed_30 : decode cX1_feed 30 = .ok (.dup, 1) := by decide +kernel
theorem dX1_feed_31 : decode cX1_feed 31 = .ok (.iconst 3, 1) := by decide +kernel
theorem dX1_feed_32 : decode cX1_feed 32 = .ok (.iload 4, 2) := by decide +kernel
theorem dX1_feed_34 : decode cX1_feed 34 = .ok (.iastore, 1) := by decide +kernel
theorem dX1_feed_35 : decode cX1_feed 35 = .ok (.dup, 1) := by decide +kernel
theorem dX1_feed_36 : decode cX1_feed 36 = .ok (.iconst 4, 1) := by decide +kernel
theorem dX1_feed_37 : decode cX1_feed 37 = .ok (.iload 5, 2) := by decide +kernel
theorem dX1_feed_39 : decode cX1_feed 39 = .ok (.iastore, 1) := by decide +kernel
theorem dX1_feed_40 : decode cX1_feed 40 = .ok (.astore 6, 2) := by decide +kernel
theorem dX1_feed_42 : decode cX1_feed 42 = .ok (.aload 6, 2) := by decide +kernel
theorem dX1_feed_44 : decode cX1_feed 44 = .ok (.astore 7, 2) := by decide +kernel
theorem dX1_feed_46 : decode cX1_feed 46 = .ok (.aload 7, 2) := by decide +kernel
theorem dX1_feed_48 : decode cX1_feed 48 = .ok (.arraylength, 1) := by decide +kernel
theorem dX1_feed_49 : decode cX1_feed 49 = .ok (.istore 8, 2) := by decide +kernel
theorem dX1_feed_51 : decode cX1_feed 51 = .ok (.iconst 0, 1) := by decide +kernel
theorem dX1_feed_52 : decode cX1_feed 52 = .ok (.istore 9, 2) := by decide +kernel
theorem dX1_feed_54 : decode cX1_feed 54 = .ok (.iload 9, 2) := by decide +kernel
theorem dX1_feed_56 : decode cX1_feed 56 = .ok (.iload 8, 2) := by decide +kernel
theorem dX1_feed_58 : decode cX1_feed 58 = .ok (.if_icmp .ge 56, 3) := by decide +kernel
theorem dX1_feed_61 : decode cX1_feed 61 = .ok (.aload 7, 2) := by decide +kernel
theorem dX1_feed_63 : decode cX1_feed 63 = .ok (.iload 9, 2) := by decide +kernel
theorem dX1_feed_65 : decode cX1_feed 65 = .ok (.iaload, 1) := by decide +kernel
theorem dX1_feed_66 : decode cX1_feed 66 = .ok (.istore 10, 2) := by decide +kernel
theorem dX1_feed_68 : decode cX1_feed 68 = .ok (.bipush 24, 2) := by decide +kernel
theorem dX1_feed_70 : decode cX1_feed 70 = .ok (.istore 11, 2) := by decide +kernel
theorem dX1_feed_72 : decode cX1_feed 72 = .ok (.iload 11, 2) := by decide +kernel
theorem dX1_feed_74 : decode cX1_feed 74 = .ok (.ifCond .lt 34, 3) := by decide +kernel
theorem dX1_feed_77 : decode cX1_feed 77 = .ok (.aload_n 0, 1) := by decide +kernel
theorem dX1_feed_78 : decode cX1_feed 78 = .ok (.getfield 38, 3) := by decide +kernel
theorem dX1_feed_81 : decode cX1_feed 81 = .ok (.aload_n 0, 1) := by decide +kernel
theorem dX1_feed_82 : decode cX1_feed 82 = .ok (.getfield 242, 3) := by decide +kernel
theorem dX1_feed_85 : decode cX1_feed 85 = .ok (.iload 10, 2) := by decide +kernel
theorem dX1_feed_87 : decode cX1_feed 87 = .ok (.iload 11, 2) := by decide +kernel
theorem dX1_feed_89 : decode cX1_feed 89 = .ok (.ishr, 1) := by decide +kernel
theorem dX1_feed_90 : decode cX1_feed 90 = .ok (.i2b, 1) := by decide +kernel
theorem dX1_feed_91 : decode cX1_feed 91 = .ok (.bastore, 1) := by decide +kernel
