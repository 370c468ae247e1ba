set_option maxRecDepth 100000
theorem dX1_feed_92 : decode cX1_feed 92 = .ok (.aload_n 0, 1) := by decide +kernel
theorem dX1_feed_93 : decode cX1_feed 93 = .ok (.dup, 1) := by decide +kernel
theorem dX1_feed_94 : decode cX1_feed 94 = .ok (.getfield 242, 3) := by decide +kernel
theorem dX1_feed_97 : decode cX1_feed 97 = .ok (.iconst 1, 1) := by decide +kernel
theorem dX1_feed_98 : decode cX1_feed 98 = .ok (.iadd, 1) := by decide +kernel
theorem dX1_feed_99 : decode cX1_feed 99 = .ok (.putfield 242, 3) := by decide +kernel
theorem dX1_feed_102 : decode cX1_feed 102 = .ok (.iinc 11 (-8), 3) := by decide +kernel
theorem dX1_feed_105 : decode cX1_feed 105 = .ok (.goto (-33), 3) := by decide +kernel
theorem dX1_feed_108 : decode cX1_feed 108 = .ok (.iinc 9 1, 3) := by decide +kernel
theorem dX1_feed_111 : decode cX1_feed 111 = .ok (.goto (-57), 3) := by decide +kernel
theorem dX1_feed_114 : decode cX1_feed 114 = .ok (.aload_n 0, 1) := by decide +kernel
theorem dX1_feed_115 : decode cX1_feed 115 = .ok (.getfield 242, 3) := by decide +kernel
theorem dX1_feed_118 : decode cX1_feed 118 = .ok (.ireturn, 1) := by decide +kernel
theorem dX1_end_0 : decode cX1_end 0 = .ok (.iload_n 1, 1) := by decide +kernel
theorem dX1_end_1 : decode cX1_end 1 = .ok (.iconst 0, 1) := by decide +kernel
theorem dX1_end_2 : decode cX1_end 2 = .ok (.aload_n 0, 1) := by decide +kernel
theorem dX1_end_3 : decode cX1_end 3 = .ok (.getfield 242, 3) := by decide +kernel
theorem dX1_end_6 : decode cX1_end 6 = .ok (.invokestatic 94, 3) := by decide +kernel
theorem dX1_end_9 : decode cX1_end 9 = .ok (.ifCond .ne 5, 3) := by decide +kernel
theorem dX1_end_12 : decode cX1_end 12 = .ok (.iconst (-1), 1) := by decide +kernel
theorem dX1_end_13 : decode cX1_end 13 = .ok (.ireturn, 1) := by decide +kernel
theorem dX1_end_14 : decode cX1_end 14 = .ok (.aload_n 0, 1) := by decide +kernel
theorem dX1_end_15 : decode cX1_end 15 = .ok (.iload_n 1, 1) := by decide +kernel
theorem dX1_end_16 : decode cX1_end 16 = .ok (.putfield 242, 3) := by decide +kernel
theorem dX1_end_19 : decode cX1_end 19 = .ok (.iload_n 1, 1) := by decide +kernel
theorem dX1_end_20 : decode cX1_end 20 = .ok (.ireturn, 1) := by decide +kernel
theorem dX1_recipe_0 : decode cX1_recipe 0 = .ok (.iload_n 1, 1) := by decide +kernel
theorem dX1_recipe_1 : decode cX1_recipe 1 = .ok (.aload_n 0, 1) := by decide +kernel
theorem dX1_recipe_2 : decode cX1_recipe 2 = .ok (.getfield 117, 3) := by decide +kernel
theorem dX1_recipe_5 : decode cX1_recipe 5 = .ok (.bipush 24, 2) := by decide +kernel
theorem dX1_recipe_7 : decode cX1_recipe 7 = .ok (.idiv, 1) := by decide +kernel
theorem dX1_recipe_8 : decode cX1_recipe 8 = .ok (.bipush 24, 2) := by decide +kernel
theorem dX1_recipe_10 : decode cX1_recipe 10 = .ok (.invokestatic 94, 3) := by decide +kernel
theorem dX1_recipe_13 : decode cX1_recipe 13 = .ok (.ifCond .eq 15, 3) := by decide +kernel
theorem dX1_recipe_16 : decode cX1_recipe 16 = .ok (.aload_n 0, 1) := by decide +kernel
theorem dX1_recipe_17 : decode cX1_recipe 17 = .ok (.getfield 32, 3) := by decide +kernel
theorem dX1_recipe_20 : decode cX1_recipe 20 = .ok (.invokevirtual 91, 3) := by decide +kernel
theorem dX1_recipe_23 : decode cX1_recipe 23 = .ok (.bipush 10, 2) := by decide +kernel
theorem dX1_recipe_25 : decode cX1_recipe 25 = .ok (.if_icmp .ne 5, 3) := by decide +kernel
theorem dX1_recipe_28 : decode cX1_recipe 28 = .ok (.iconst (-1), 1) := by decide +kernel
theorem dX1_recipe_29 : decode cX1_recipe 29 = .ok (.ireturn, 1) := by decide +kernel
theorem dX1_recipe_30 : decode cX1_recipe 30 = .ok (.aload_n 0, 1) := by decide +kernel
theorem dX1_recipe_31 : decode cX1_recipe 31 = .ok (.iconst (-1), 1) := by decide +kernel
theorem dX1_recipe_32 : decode cX1_recipe 32 = .ok (.putfield 41, 3) := by decide +kernel
theorem dX1_recipe_35 : decode cX1_recipe 35 = .ok (.aload_n 0, 1) := by decide +kernel
theorem dX1_recipe_36 : decode cX1_recipe 36 = .ok (.getfield 32, 3) := by decide +kernel
theorem dX1_recipe_39 : decode cX1_recipe 39 = .ok (.new 151, 3) := by decide +kernel
theorem dX1_recipe_42 : decode cX1_recipe 42 = .ok (.dup, 1) := by decide +kernel
theorem dX1_recipe_43 : decode cX1_recipe 43 = .ok (.iload_n 1, 1) := by decide +kernel
theorem dX1_recipe_44 : decode cX1_recipe 44 = .ok (.new 245, 3) := by decide +kernel
theorem dX1_recipe_47 : decode cX1_recipe 47 = .ok (.dup, 1) := by decide +kernel
theorem dX1_recipe_48 : decode cX1_recipe 48 = .ok (.aload_n 0, 1) := by decide +kernel
theorem dX1_recipe_49 : decode cX1_recipe 49 = .ok (.getfield 38, 3) := by decide +kernel
theorem dX1_recipe_52 : decode cX1_recipe 52 = .ok (.aload_n 0, 1) := by decide +kernel
theorem dX1_recipe_53 : decode cX1_recipe 53 = .ok (.getfield 242, 3) := by decide +kernel
theorem dX1_recipe_56 : decode cX1_recipe 56 = .ok (.invokespecial 247, 3) := by decide +kernel
theorem dX1_recipe_59 : decode cX1_recipe 59 = .ok (.invokevirtual 250, 3) := by decide +kernel
theorem dX1_recipe_62 : decode cX1_recipe 62 = .ok (.invokespecial 253, 3) := by decide +kernel
theorem dX1_recipe_65 : decode cX1_recipe 65 = .ok (.invokevirtual 123, 3) := by decide +kernel
theorem dX1_recipe_68 : decode cX1_recipe 68 = .ok (.pop, 1) := by decide +kernel
theorem dX1_recipe_69 : decode cX1_recipe 69 = .ok (.aload_n 0, 1) := by decide +kernel
theorem dX1_recipe_70 : decode cX1_recipe 70 = .ok (.getfield 32, 3) := by decide +kernel
theorem dX1_recipe_73 : decode cX1_recipe 73 = .ok (.invokevirtual 91, 3) := by decide +kernel
theorem dX1_recipe_76 : decode cX1_recipe 76 = .ok (.iconst 1, 1) := by decide +kernel
theorem dX1_recipe_77 : decode cX1_recipe 77 = .ok (.isub, 1) := by decide +kernel
theorem dX1_recipe_78 : decode cX1_recipe 78 = .ok (.istore_n 2, 1) := by decide +kernel
theorem dX1_recipe_79 : decode cX1_recipe 79 = .ok (.aload_n 0, 1) := by decide +kernel
theorem dX1_recipe_80 : decode cX1_recipe 80 = .ok (.iconst 0, 1) := by decide +kernel
theorem dX1_recipe_81 : decode cX1_recipe 81 = .ok (.putfield 242, 3) := by decide +kernel
theorem dX1_recipe_84 : decode cX1_recipe 84 = .ok (.iload_n 2, 1) := by decide +kernel
theorem dX1_recipe_85 : decode cX1_recipe 85 = .ok (.ireturn, 1) := by decide +kernel
theorem dX1_recipe_86 : decode cX1_recipe 86 = .ok (.astore_n 2, 1) := by decide +kernel
theorem dX1_recipe_87 : decode cX1_recipe 87 = .ok (.aload_n 0, 1) := by decide +kernel
theorem dX1_recipe_88 : decode cX1_recipe 88 = .ok (.aload_n 2, 1) := by decide +kernel
theorem dX1_recipe_89 : decode cX1_recipe 89 = .ok (.getfield 258, 3) := by decide +kernel
theorem dX1_recipe_92 : decode cX1_recipe 92 = .ok (.putfield 41, 3) := by decide +kernel
theorem dX1_recipe_95 : decode cX1_recipe 95 = .ok (.aload_n 2, 1) := by decide +kernel
theorem dX1_recipe_96 : decode cX1_recipe 96 = .ok (.getfield 259, 3) := by decide +kernel
theorem dX1_recipe_99 : decode cX1_recipe 99 = .ok (.bipush 10, 2) := by decide +kernel
theorem dX1_recipe_101 : decode cX1_recipe 101 = .ok (.isub, 1) := by decide +kernel
theorem dX1_recipe_102 : decode cX1_recipe 102 = .ok (.istore_n 3, 1) := by decide +kernel
theorem dX1_recipe_103 : decode cX1_recipe 103 = .ok (.aload_n 0, 1) := by decide +kernel
theorem dX1_recipe_104 : decode cX1_recipe 104 = .ok (.iconst 0, 1) := by decide +kernel
theorem dX1_recipe_105 : decode cX1_recipe 105 = .ok (.putfield 242, 3) := by decide +kernel
theorem dX1_recipe_108 : decode cX1_recipe 108 = .ok (.iload_n 3, 1) := by decide +kernel
theorem dX1_recipe_109 : decode cX1_recipe 109 = .ok (.ireturn, 1) := by decide +kernel
theorem dX1_recipe_110 : decode cX1_recipe 110 = .ok (.astore 4, 2) := by decide +kernel
theorem dX1_recipe_112 : decode cX1_recipe 112 = .ok (.aload_n 0, 1) := by decide +kernel
theorem dX1_recipe_113 : decode cX1_recipe 113 = .ok (.iconst 0, 1) := by decide +kernel
theorem dX1_recipe_114 : decode cX1_recipe 114 = .ok (.putfield 242, 3) := by decide +kernel
theorem dX1_recipe_117 : decode cX1_recipe 117 = .ok (.aload 4, 2) := by decide +kernel
theorem dX1_recipe_119 : decode cX1_recipe 119 = .ok (.athrow, 1) := by decide +kernel
theorem dX1_place_0 : decode cX1_place 0 = .ok (.aload_n 0, 1) := by decide +kernel
theorem dX1_place_1 : decode cX1_place 1 = .ok (.getfield 41, 3) := by decide +kernel
theorem dX1_place_4 : decode cX1_place 4 = .ok (.ireturn, 1) := by decide +kernel
theorem dX1_pour_0 : decode cX1_pour 0 = .ok (.aload_n 0, 1) := by decide +kernel
theorem dX1_pour_1 : decode cX1_pour 1 = .ok (.iload_n 1, 1) := by decide +kernel
theorem dX1_pour_2 : decode cX1_pour 2 = .ok (.invokevirtual 127, 3) := by decide +kernel
theorem dX1_pour_5 : decode cX1_pour 5 = .ok (.astore_n 3, 1) := by decide +kernel
theorem dX1_pour_6 : decode cX1_pour 6 = .ok (.aload_n 0, 1) := by decide +kernel
theorem dX1_pour_7 : decode cX1_pour 7 = .ok (.iload_n 2, 1) := by decide +kernel
theorem dX1_pour_8 : decode cX1_pour 8 = .ok (.invokevirtual 127, 3) := by decide +kernel
theorem dX1_pour_11 : decode cX1_pour 11 = .ok (.astore 4, 2) := by decide +kernel
theorem dX1_pour_13 : decode cX1_pour 13 = .ok (.aload_n 3, 1) := by decide +kernel
theorem dX1_pour_14 : decode cX1_pour 14 = .ok (.ifnull 29, 3) := by decide +kernel
theorem dX1_pour_17 : decode cX1_pour 17 = .ok (.aload 4, 2) := by decide +kernel
theorem dX1_pour_19 : decode cX1_pour 19 = .ok (.ifnull 24, 3) := by decide +kernel
theorem dX1_pour_22 : decode cX1_pour 22 = .ok (.aload_n 3, 1) := by decide +kernel
theorem dX1_pour_23 : decode cX1_pour 23 = .ok (.aload 4, 2) := by decide +kernel
theorem dX1_pour_25 : decode cX1_pour 25 = .ok (.if_acmp .eq 18, 3) := by decide +kernel
theorem dX1_pour_28 : decode cX1_pour 28 = .ok (.aload_n 3, 1) := by decide +kernel
theorem dX1_pour_29 : decode cX1_pour 29 = .ok (.invokevirtual 134, 3) := by decide +kernel
theorem dX1_pour_32 : decode cX1_pour 32 = .ok (.ifCond .eq 11, 3) := by decide +kernel
theorem dX1_pour_35 : decode cX1_pour 35 = .ok (.aload 4, 2) := by decide +kernel
theorem dX1_pour_37 : decode cX1_pour 37 = .ok (.invokevirtual 134, 3) := by decide +kernel
theorem dX1_pour_40 : decode cX1_pour 40 = .ok (.ifCond .ne 5, 3) := by decide +kernel
theorem dX1_pour_43 : decode cX1_pour 43 = .ok (.iconst (-1), 1) := by decide +kernel
theorem dX1_pour_44 : decode cX1_pour 44 = .ok (.ireturn, 1) := by decide +kernel
theorem dX1_pour_45 : decode cX1_pour 45 = .ok (.aload_n 3, 1) := by decide +kernel
theorem dX1_pour_46 : decode cX1_pour 46 = .ok (.invokevirtual 134, 3) := by decide +kernel
theorem dX1_pour_49 : decode cX1_pour 49 = .ok (.istore 5, 2) := by decide +kernel
theorem dX1_pour_51 : decode cX1_pour 51 = .ok (.aload 4, 2) := by decide +kernel
theorem dX1_pour_53 : decode cX1_pour 53 = .ok (.invokevirtual 134, 3) := by decide +kernel
theorem dX1_pour_56 : decode cX1_pour 56 = .ok (.istore 6, 2) := by decide +kernel
theorem dX1_pour_58 : decode cX1_pour 58 = .ok (.aload_n 0, 1) := by decide +kernel
theorem dX1_pour_59 : decode cX1_pour 59 = .ok (.getfield 29, 3) := by decide +kernel
theorem dX1_pour_62 : decode cX1_pour 62 = .ok (.invokevirtual 91, 3) := by decide +kernel
theorem dX1_pour_65 : decode cX1_pour 65 = .ok (.istore 7, 2) := by decide +kernel
theorem dX1_pour_67 : decode cX1_pour 67 = .ok (.aload_n 0, 1) := by decide +kernel
theorem dX1_pour_68 : decode cX1_pour 68 = .ok (.aload_n 3, 1) := by decide +kernel
theorem dX1_pour_69 : decode cX1_pour 69 = .ok (.aload_n 0, 1) := by decide +kernel
theorem dX1_pour_70 : decode cX1_pour 70 = .ok (.getfield 117, 3) := by decide +kernel
theorem dX1_pour_73 : decode cX1_pour 73 = .ok (.iload 7, 2) := by decide +kernel
theorem dX1_pour_75 : decode cX1_pour 75 = .ok (.iconst 0, 1) := by decide +kernel
theorem dX1_pour_76 : decode cX1_pour 76 = .ok (.invokevirtual 216, 3) := by decide +kernel
theorem dX1_pour_79 : decode cX1_pour 79 = .ok (.i2l, 1) := by decide +kernel
theorem dX1_pour_80 : decode cX1_pour 80 = .ok (.iload 5, 2) := by decide +kernel
theorem dX1_pour_82 : decode cX1_pour 82 = .ok (.aload_n 0, 1) := by decide +kernel
theorem dX1_pour_83 : decode cX1_pour 83 = .ok (.aload 4, 2) := by decide +kernel
theorem dX1_pour_85 : decode cX1_pour 85 = .ok (.aload_n 0, 1) := by decide +kernel
theorem dX1_pour_86 : decode cX1_pour 86 = .ok (.getfield 117, 3) := by decide +kernel
theorem dX1_pour_89 : decode cX1_pour 89 = .ok (.iload 7, 2) := by decide +kernel
theorem dX1_pour_91 : decode cX1_pour 91 = .ok (.iconst 0, 1) := by decide +kernel
theorem dX1_pour_92 : decode cX1_pour 92 = .ok (.invokevirtual 216, 3) := by decide +kernel
theorem dX1_pour_95 : decode cX1_pour 95 = .ok (.i2l, 1) := by decide +kernel
theorem dX1_pour_96 : decode cX1_pour 96 = .ok (.iload 6, 2) := by decide +kernel
theorem dX1_pour_98 : decode cX1_pour 98 = .ok (.iconst 0, 1) := by decide +kernel
theorem dX1_pour_99 : decode cX1_pour 99 = .ok (.invokestatic 262, 3) := by decide +kernel
theorem dX1_pour_102 : decode cX1_pour 102 = .ok (.istore 8, 2) := by decide +kernel
theorem dX1_pour_104 : decode cX1_pour 104 = .ok (.aload_n 0, 1) := by decide +kernel
theorem dX1_pour_105 : decode cX1_pour 105 = .ok (.aload_n 3, 1) := by decide +kernel
theorem dX1_pour_106 : decode cX1_pour 106 = .ok (.aload_n 0, 1) := by decide +kernel
theorem dX1_pour_107 : decode cX1_pour 107 = .ok (.getfield 117, 3) := by decide +kernel
theorem dX1_pour_110 : decode cX1_pour 110 = .ok (.iload 7, 2) := by decide +kernel
theorem dX1_pour_112 : decode cX1_pour 112 = .ok (.iconst 1, 1) := by decide +kernel
theorem dX1_pour_113 : decode cX1_pour 113 = .ok (.invokevirtual 216, 3) := by decide +kernel
theorem dX1_pour_116 : decode cX1_pour 116 = .ok (.i2l, 1) := by decide +kernel
theorem dX1_pour_117 : decode cX1_pour 117 = .ok (.iload 5, 2) := by decide +kernel
theorem dX1_pour_119 : decode cX1_pour 119 = .ok (.aload_n 0, 1) := by decide +kernel
theorem dX1_pour_120 : decode cX1_pour 120 = .ok (.aload 4, 2) := by decide +kernel
theorem dX1_pour_122 : decode cX1_pour 122 = .ok (.aload_n 0, 1) := by decide +kernel
theorem dX1_pour_123 : decode cX1_pour 123 = .ok (.getfield 117, 3) := by decide +kernel
theorem dX1_pour_126 : decode cX1_pour 126 = .ok (.iload 7, 2) := by decide +kernel
theorem dX1_pour_128 : decode cX1_pour 128 = .ok (.iconst 1, 1) := by decide +kernel
theorem dX1_pour_129 : decode cX1_pour 129 = .ok (.invokevirtual 216, 3) := by decide +kernel
theorem dX1_pour_132 : decode cX1_pour 132 = .ok (.i2l, 1) := by decide +kernel
theorem dX1_pour_133 : decode cX1_pour 133 = .ok (.iload 6, 2) := by decide +kernel
theorem dX1_pour_135 : decode cX1_pour 135 = .ok (.iconst 1, 1) := by decide +kernel
theorem dX1_pour_136 : decode cX1_pour 136 = .ok (.invokestatic 262, 3) := by decide +kernel
theorem dX1_pour_139 : decode cX1_pour 139 = .ok (.istore 9, 2) := by decide +kernel
theorem dX1_pour_141 : decode cX1_pour 141 = .ok (.aload 4, 2) := by decide +kernel
theorem dX1_pour_143 : decode cX1_pour 143 = .ok (.aload_n 3, 1) := by decide +kernel
theorem dX1_pour_144 : decode cX1_pour 144 = .ok (.getfield 141, 3) := by decide +kernel
theorem dX1_pour_147 : decode cX1_pour 147 = .ok (.i2l, 1) := by decide +kernel
theorem dX1_pour_148 : decode cX1_pour 148 = .ok (.iload 5, 2) := by decide +kernel
theorem dX1_pour_150 : decode cX1_pour 150 = .ok (.aload 4, 2) := by decide +kernel
theorem dX1_pour_152 : decode cX1_pour 152 = .ok (.getfield 141, 3) := by decide +kernel
theorem dX1_pour_155 : decode cX1_pour 155 = .ok (.i2l, 1) := by decide +kernel
theorem dX1_pour_156 : decode cX1_pour 156 = .ok (.iload 6, 2) := by decide +kernel
theorem dX1_pour_158 : decode cX1_pour 158 = .ok (.iconst 0, 1) := by decide +kernel
theorem dX1_pour_159 : decode cX1_pour 159 = .ok (.invokestatic 262, 3) := by decide +kernel
theorem dX1_pour_162 : decode cX1_pour 162 = .ok (.putfield 141, 3) := by decide +kernel
theorem dX1_pour_165 : decode cX1_pour 165 = .ok (.aload 4, 2) := by decide +kernel
theorem dX1_pour_167 : decode cX1_pour 167 = .ok (.iload 8, 2) := by decide +kernel
theorem dX1_pour_169 : decode cX1_pour 169 = .ok (.putfield 213, 3) := by decide +kernel
theorem dX1_pour_172 : decode cX1_pour 172 = .ok (.aload 4, 2) := by decide +kernel
theorem dX1_pour_174 : decode cX1_pour 174 = .ok (.iload 9, 2) := by decide +kernel
theorem dX1_pour_176 : decode cX1_pour 176 = .ok (.putfield 210, 3) := by decide +kernel
theorem dX1_pour_179 : decode cX1_pour 179 = .ok (.aload 4, 2) := by decide +kernel
theorem dX1_pour_181 : decode cX1_pour 181 = .ok (.aload_n 0, 1) := by decide +kernel
theorem dX1_pour_182 : decode cX1_pour 182 = .ok (.getfield 117, 3) := by decide +kernel
theorem dX1_pour_185 : decode cX1_pour 185 = .ok (.putfield 201, 3) := by decide +kernel
theorem dX1_pour_188 : decode cX1_pour 188 = .ok (.aload 4, 2) := by decide +kernel
theorem dX1_pour_190 : decode cX1_pour 190 = .ok (.aload_n 3, 1) := by decide +kernel
theorem dX1_pour_191 : decode cX1_pour 191 = .ok (.getfield 181, 3) := by decide +kernel
theorem dX1_pour_194 : decode cX1_pour 194 = .ok (.aload 4, 2) := by decide +kernel
theorem dX1_pour_196 : decode cX1_pour 196 = .ok (.getfield 181, 3) := by decide +kernel
theorem dX1_pour_199 : decode cX1_pour 199 = .ok (.invokestatic 266, 3) := by decide +kernel
theorem dX1_pour_202 : decode cX1_pour 202 = .ok (.putfield 181, 3) := by decide +kernel
theorem dX1_pour_205 : decode cX1_pour 205 = .ok (.aload 4, 2) := by decide +kernel
theorem dX1_pour_207 : decode cX1_pour 207 = .ok (.aload_n 3, 1) := by decide +kernel
theorem dX1_pour_208 : decode cX1_pour 208 = .ok (.invokevirtual 269, 3) := by decide +kernel
theorem dX1_pour_211 : decode cX1_pour 211 = .ok (.aload_n 3, 1) := by decide +kernel
theorem dX1_pour_212 : decode cX1_pour 212 = .ok (.iconst 4, 1) := by decide +kernel
theorem dX1_pour_213 : decode cX1_pour 213 = .ok (.invokevirtual 147, 3) := by decide +kernel
theorem dX1_pour_216 : decode cX1_pour 216 = .ok (.aload 4, 2) := by decide +kernel
theorem dX1_pour_218 : decode cX1_pour 218 = .ok (.invokevirtual 134, 3) := by decide +kernel
theorem dX1_pour_221 : decode cX1_pour 221 = .ok (.ireturn, 1) := by decide +kernel
theorem dX1_mixed_0 : decode cX1_mixed 0 = .ok (.lload_n 0, 1) := by decide +kernel
theorem dX1_mixed_1 : decode cX1_mixed 1 = .ok (.iload_n 2, 1) := by decide +kernel
theorem dX1_mixed_2 : decode cX1_mixed 2 = .ok (.i2l, 1) := by decide +kernel
theorem dX1_mixed_3 : decode cX1_mixed 3 = .ok (.lmul, 1) := by decide +kernel
theorem dX1_mixed_4 : decode cX1_mixed 4 = .ok (.lload_n 3, 1) := by decide +kernel
theorem dX1_mixed_5 : decode cX1_mixed 5 = .ok (.iload 5, 2) := by decide +kernel
theorem dX1_mixed_7 : decode cX1_mixed 7 = .ok (.i2l, 1) := by decide +kernel
theorem dX1_mixed_8 : decode cX1_mixed 8 = .ok (.lmul, 1) := by decide +kernel
theorem dX1_mixed_9 : decode cX1_mixed 9 = .ok (.ladd, 1) := by decide +kernel
theorem dX1_mixed_10 : decode cX1_mixed 10 = .ok (.lstore 7, 2) := by decide +kernel
theorem dX1_mixed_12 : decode cX1_mixed 12 = .ok (.iload_n 2, 1) := by decide +kernel
theorem dX1_mixed_13 : decode cX1_mixed 13 = .ok (.i2l, 1) := by decide +kernel
theorem dX1_mixed_14 : decode cX1_mixed 14 = .ok (.iload 5, 2) := by decide +kernel
theorem dX1_mixed_16 : decode cX1_mixed 16 = .ok (.i2l, 1) := by decide +kernel
theorem dX1_mixed_17 : decode cX1_mixed 17 = .ok (.ladd, 1) := by decide +kernel
theorem dX1_mixed_18 : decode cX1_mixed 18 = .ok (.lstore 9, 2) := by decide +kernel
theorem dX1_mixed_20 : decode cX1_mixed 20 = .ok (.lload 7, 2) := by decide +kernel
theorem dX1_mixed_22 : decode cX1_mixed 22 = .ok (.iload 6, 2) := by decide +kernel
theorem dX1_mixed_24 : decode cX1_mixed 24 = .ok (.ifCond .eq 10, 3) := by decide +kernel
theorem dX1_mixed_27 : decode cX1_mixed 27 = .ok (.lload 9, 2) := by decide +kernel
theorem dX1_mixed_29 : decode cX1_mixed 29 = .ok (.lconst 1, 1) := by decide +kernel
theorem dX1_mixed_30 : decode cX1_mixed 30 = .ok (.lsub, 1) := by decide +kernel
theorem dX1_mixed_31 : decode cX1_mixed 31 = .ok (.goto 4, 3) := by decide +kernel
theorem dX1_mixed_34 : decode cX1_mixed 34 = .ok (.lconst 0, 1) := by decide +kernel
theorem dX1_mixed_35 : decode cX1_mixed 35 = .ok (.ladd, 1) := by decide +kernel
theorem dX1_mixed_36 : decode cX1_mixed 36 = .ok (.lload 9, 2) := by decide +kernel
theorem dX1_mixed_38 : decode cX1_mixed 38 = .ok (.ldiv, 1) := by decide +kernel
theorem dX1_mixed_39 : decode cX1_mixed 39 = .ok (.l2i, 1) := by decide +kernel
theorem dX1_mixed_40 : decode cX1_mixed 40 = .ok (.ireturn, 1) := by decide +kernel
theorem dX1_limits_0 : decode cX1_limits 0 = .ok (.iload_n 1, 1) := by decide +kernel
theorem dX1_limits_1 : decode cX1_limits 1 = .ok (.iconst 0, 1) := by decide +kernel
theorem dX1_limits_2 : decode cX1_limits 2 = .ok (.sipush 1000, 3) := by decide +kernel
theorem dX1_limits_5 : decode cX1_limits 5 = .ok (.invokestatic 94, 3) := by decide +kernel
theorem dX1_limits_8 : decode cX1_limits 8 = .ok (.ifCond .eq 14, 3) := by decide +kernel
theorem dX1_limits_11 : decode cX1_limits 11 = .ok (.iload_n 2, 1) := by decide +kernel
theorem dX1_limits_12 : decode cX1_limits 12 = .ok (.iload_n 1, 1) := by decide +kernel
theorem dX1_limits_13 : decode cX1_limits 13 = .ok (.sipush 1000, 3) := by decide +kernel
theorem dX1_limits_16 : decode cX1_limits 16 = .ok (.invokestatic 94, 3) := by decide +kernel
theorem dX1_limits_19 : decode cX1_limits 19 = .ok (.ifCond .ne 5, 3) := by decide +kernel
theorem dX1_limits_22 : decode cX1_limits 22 = .ok (.iconst 0, 1) := by decide +kernel
theorem dX1_limits_23 : decode cX1_limits 23 = .ok (.ireturn, 1) := by decide +kernel
theorem dX1_limits_24 : decode cX1_limits 24 = .ok (.aload_n 0, 1) := by decide +kernel
theorem dX1_limits_25 : decode cX1_limits 25 = .ok (.iload_n 1, 1) := by decide +kernel
theorem dX1_limits_26 : decode cX1_limits 26 = .ok (.putfield 232, 3) := by decide +kernel
theorem dX1_limits_29 : decode cX1_limits 29 = .ok (.aload_n 0, 1) := by decide +kernel
theorem dX1_limits_30 : decode cX1_limits 30 = .ok (.iload_n 2, 1) := by decide +kernel
theorem dX1_limits_31 : decode cX1_limits 31 = .ok (.putfield 45, 3) := by decide +kernel
theorem dX1_limits_34 : decode cX1_limits 34 = .ok (.iconst 1, 1) := by decide +kernel
theorem dX1_limits_35 : decode cX1_limits 35 = .ok (.ireturn, 1) := by decide +kernel
theorem dX1_jar_0 : decode cX1_jar 0 = .ok (.aload_n 0, 1) := by decide +kernel
theorem dX1_jar_1 : decode cX1_jar 1 = .ok (.iload_n 1, 1) := by decide +kernel
theorem dX1_jar_2 : decode cX1_jar 2 = .ok (.invokevirtual 127, 3) := by decide +kernel
theorem dX1_jar_5 : decode cX1_jar 5 = .ok (.astore_n 3, 1) := by decide +kernel
theorem dX1_jar_6 : decode cX1_jar 6 = .ok (.aload_n 3, 1) := by decide +kernel
theorem dX1_jar_7 : decode cX1_jar 7 = .ok (.ifnull 28, 3) := by decide +kernel
theorem dX1_jar_10 : decode cX1_jar 10 = .ok (.iload_n 2, 1) := by decide +kernel
theorem dX1_jar_11 : decode cX1_jar 11 = .ok (.iconst 1, 1) := by decide +kernel
theorem dX1_jar_12 : decode cX1_jar 12 = .ok (.if_icmp .lt 23, 3) := by decide +kernel
theorem dX1_jar_15 : decode cX1_jar 15 = .ok (.iload_n 2, 1) := by decide +kernel
theorem dX1_jar_16 : decode cX1_jar 16 = .ok (.aload_n 3, 1) := by decide +kernel
theorem dX1_jar_17 : decode cX1_jar 17 = .ok (.invokevirtual 134, 3) := by decide +kernel
theorem dX1_jar_20 : decode cX1_jar 20 = .ok (.if_icmp .gt 15, 3) := by decide +kernel
theorem dX1_jar_23 : decode cX1_jar 23 = .ok (.aload_n 0, 1) := by decide +kernel
theorem dX1_jar_24 : decode cX1_jar 24 = .ok (.getfield 35, 3) := by decide +kernel
theorem dX1_jar_27 : decode cX1_jar 27 = .ok (.invokevirtual 91, 3) := by decide +kernel
theorem dX1_jar_30 : decode cX1_jar 30 = .ok (.bipush 60, 2) := by decide +kernel
theorem dX1_jar_32 : decode cX1_jar 32 = .ok (.if_icmp .ne 5, 3) := by decide +kernel
theorem dX1_jar_35 : decode cX1_jar 35 = .ok (.iconst (-1), 1) := by decide +kernel
theorem dX1_jar_36 : decode cX1_jar 36 = .ok (.ireturn, 1) := by decide +kernel
theorem dX1_jar_37 : decode cX1_jar 37 = .ok (.aload_n 0, 1) := by decide +kernel
theorem dX1_jar_38 : decode cX1_jar 38 = .ok (.aload_n 3, 1) := by decide +kernel
theorem dX1_jar_39 : decode cX1_jar 39 = .ok (.invokevirtual 235, 3) := by decide +kernel
theorem dX1_jar_42 : decode cX1_jar 42 = .ok (.ifCond .ne 6, 3) := by decide +kernel
theorem dX1_jar_45 : decode cX1_jar 45 = .ok (.bipush (-2), 2) := by decide +kernel
theorem dX1_jar_47 : decode cX1_jar 47 = .ok (.ireturn, 1) := by decide +kernel
theorem dX1_jar_48 : decode cX1_jar 48 = .ok (.new 273, 3) := by decide +kernel
theorem dX1_jar_51 : decode cX1_jar 51 = .ok (.dup, 1) := by decide +kernel
theorem dX1_jar_52 : decode cX1_jar 52 = .ok (.invokespecial 275, 3) := by decide +kernel
theorem dX1_jar_55 : decode cX1_jar 55 = .ok (.astore 4, 2) := by decide +kernel
theorem dX1_jar_57 : decode cX1_jar 57 = .ok (.aload_n 3, 1) := by decide +kernel
theorem dX1_jar_58 : decode cX1_jar 58 = .ok (.iload_n 2, 1) := by decide +kernel
theorem dX1_jar_59 : decode cX1_jar 59 = .ok (.aload 4, 2) := by decide +kernel
theorem dX1_jar_61 : decode cX1_jar 61 = .ok (.invokevirtual 276, 3) := by decide +kernel
theorem dX1_jar_64 : decode cX1_jar 64 = .ok (.aload_n 0, 1) := by decide +kernel
theorem dX1_jar_65 : decode cX1_jar 65 = .ok (.getfield 35, 3) := by decide +kernel
theorem dX1_jar_68 : decode cX1_jar 68 = .ok (.aload 4, 2) := by decide +kernel
theorem dX1_jar_70 : decode cX1_jar 70 = .ok (.invokevirtual 123, 3) := by decide +kernel
theorem dX1_jar_73 : decode cX1_jar 73 = .ok (.pop, 1) := by decide +kernel
theorem dX1_jar_74 : decode cX1_jar 74 = .ok (.aload_n 0, 1) := by decide +kernel
theorem dX1_jar_75 : decode cX1_jar 75 = .ok (.getfield 35, 3) := by decide +kernel
theorem dX1_jar_78 : decode cX1_jar 78 = .ok (.invokevirtual 91, 3) := by decide +kernel
theorem dX1_jar_81 : decode cX1_jar 81 = .ok (.iconst 1, 1) := by decide +kernel
theorem dX1_jar_82 : decode cX1_jar 82 = .ok (.isub, 1) := by decide +kernel
theorem dX1_jar_83 : decode cX1_jar 83 = .ok (.ireturn, 1) := by decide +kernel
theorem dX1_inJar_0 : decode cX1_inJar 0 = .ok (.iload_n 1, 1) := by decide +kernel
theorem dX1_inJar_1 : decode cX1_inJar 1 = .ok (.iconst 0, 1) := by decide +kernel
theorem dX1_inJar_2 : decode cX1_inJar 2 = .ok (.aload_n 0, 1) := by decide +kernel
theorem dX1_inJar_3 : decode cX1_inJar 3 = .ok (.getfield 35, 3) := by decide +kernel
theorem dX1_inJar_6 : decode cX1_inJar 6 = .ok (.invokevirtual 91, 3) := by decide +kernel
theorem dX1_inJar_9 : decode cX1_inJar 9 = .ok (.iconst 1, 1) := by decide +kernel
theorem dX1_inJar_10 : decode cX1_inJar 10 = .ok (.isub, 1) := by decide +kernel
theorem dX1_inJar_11 : decode cX1_inJar 11 = .ok (.invokestatic 94, 3) := by decide +kernel
theorem dX1_inJar_14 : decode cX1_inJar 14 = .ok (.ifCond .eq 36, 3) := by decide +kernel
theorem dX1_inJar_17 : decode cX1_inJar 17 = .ok (.iload_n 2, 1) := by decide +kernel
theorem dX1_inJar_18 : decode cX1_inJar 18 = .ok (.iconst 0, 1) := by decide +kernel
theorem dX1_inJar_19 : decode cX1_inJar 19 = .ok (.aload_n 0, 1) := by decide +kernel
theorem dX1_inJar_20 : decode cX1_inJar 20 = .ok (.getfield 108, 3) := by decide +kernel
theorem dX1_inJar_23 : decode cX1_inJar 23 = .ok (.iconst 1, 1) := by decide +kernel
theorem dX1_inJar_24 : decode cX1_inJar 24 = .ok (.isub, 1) := by decide +kernel
theorem dX1_inJar_25 : decode cX1_inJar 25 = .ok (.invokestatic 94, 3) := by decide +kernel
theorem dX1_inJar_28 : decode cX1_inJar 28 = .ok (.ifCond .eq 22, 3) := by decide +kernel
theorem dX1_inJar_31 : decode cX1_inJar 31 = .ok (.aload_n 0, 1) := by decide +kernel
theorem dX1_inJar_32 : decode cX1_inJar 32 = .ok (.getfield 35, 3) := by decide +kernel
theorem dX1_inJar_35 : decode cX1_inJar 35 = .ok (.iload_n 1, 1) := by decide +kernel
theorem dX1_inJar_36 : decode cX1_inJar 36 = .ok (.invokevirtual 98, 3) := by decide +kernel
theorem dX1_inJar_39 : decode cX1_inJar 39 = .ok (.checkcast 273, 3) := by decide +kernel
theorem dX1_inJar_42 : decode cX1_inJar 42 = .ok (.getfield 280, 3) := by decide +kernel
theorem dX1_inJar_45 : decode cX1_inJar 45 = .ok (.iload_n 2, 1) := by decide +kernel
theorem dX1_inJar_46 : decode cX1_inJar 46 = .ok (.iaload, 1) := by decide +kernel
theorem dX1_inJar_47 : decode cX1_inJar 47 = .ok (.goto 4, 3) := by decide +kernel
theorem dX1_inJar_50 : decode cX1_inJar 50 = .ok (.iconst (-1), 1) := by decide +kernel
theorem dX1_inJar_51 : decode cX1_inJar 51 = .ok (.ireturn, 1) := by decide +kernel
theorem dX1_called_0 : decode cX1_called 0 = .ok (.iconst 0, 1) := by decide +kernel
theorem dX1_called_1 : decode cX1_called 1 = .ok (.istore_n 2, 1) := by decide +kernel
theorem dX1_called_2 : decode cX1_called 2 = .ok (.iconst 0, 1) := by decide +kernel
theorem dX1_called_3 : decode cX1_called 3 = .ok (.istore_n 3, 1) := by decide +kernel
theorem dX1_called_4 : decode cX1_called 4 = .ok (.iload_n 3, 1) := by decide +kernel
theorem dX1_called_5 : decode cX1_called 5 = .ok (.aload_n 0, 1) := by decide +kernel
theorem dX1_called_6 : decode cX1_called 6 = .ok (.getfield 35, 3) := by decide +kernel
theorem dX1_called_9 : decode cX1_called 9 = .ok (.invokevirtual 91, 3) := by decide +kernel
theorem dX1_called_12 : decode cX1_called 12 = .ok (.if_icmp .ge 50, 3) := by decide +kernel
theorem dX1_called_15 : decode cX1_called 15 = .ok (.iload_n 1, 1) := by decide +kernel
theorem dX1_called_16 : decode cX1_called 16 = .ok (.iconst 0, 1) := by decide +kernel
theorem dX1_called_17 : decode cX1_called 17 = .ok (.aload_n 0, 1) := by decide +kernel
theorem dX1_called_18 : decode cX1_called 18 = .ok (.getfield 108, 3) := by decide +kernel
theorem dX1_called_21 : decode cX1_called 21 = .ok (.iconst 1, 1) := by decide +kernel
theorem dX1_called_22 : decode cX1_called 22 = .ok (.isub, 1) := by decide +kernel
theorem dX1_called_23 : decode cX1_called 23 = .ok (.invokestatic 94, 3) := by decide +kernel
theorem dX1_called_26 : decode cX1_called 26 = .ok (.ifCond .eq 36, 3) := by decide +kernel
theorem dX1_called_29 : decode cX1_called 29 = .ok (.iload_n 2, 1) := by decide +kernel
theorem dX1_called_30 : decode cX1_called 30 = .ok (.aload_n 0, 1) := by decide +kernel
theorem dX1_called_31 : decode cX1_called 31 = .ok (.getfield 35, 3) := by decide +kernel
theorem dX1_called_34 : decode cX1_called 34 = .ok (.iload_n 3, 1) := by decide +kernel
theorem dX1_called_35 : decode cX1_called 35 = .ok (.invokevirtual 98, 3) := by decide +kernel
theorem dX1_called_38 : decode cX1_called 38 = .ok (.checkcast 273, 3) := by decide +kernel
theorem dX1_called_41 : decode cX1_called 41 = .ok (.getfield 280, 3) := by decide +kernel
theorem dX1_called_44 : decode cX1_called 44 = .ok (.iload_n 1, 1) := by decide +kernel
theorem dX1_called_45 : decode cX1_called 45 = .ok (.iaload, 1) := by decide +kernel
theorem dX1_called_46 : decode cX1_called 46 = .ok (.ifCond .le 7, 3) := by decide +kernel
theorem dX1_called_49 : decode cX1_called 49 = .ok (.iconst 1, 1) := by decide +kernel
theorem dX1_called_50 : decode cX1_called 50 = .ok (.goto 4, 3) := by decide +kernel
theorem dX1_called_53 : decode cX1_called 53 = .ok (.iconst 0, 1) := by decide +kernel
theorem dX1_called_54 : decode cX1_called 54 = .ok (.iadd, 1) := by decide +kernel
theorem dX1_called_55 : decode cX1_called 55 = .ok (.istore_n 2, 1) := by decide +kernel
theorem dX1_called_56 : decode cX1_called 56 = .ok (.iinc 3 1, 3) := by decide +kernel
theorem dX1_called_59 : decode cX1_called 59 = .ok (.goto (-55), 3) := by decide +kernel
theorem dX1_called_62 : decode cX1_called 62 = .ok (.iload_n 2, 1) := by decide +kernel
theorem dX1_called_63 : decode cX1_called 63 = .ok (.ireturn, 1) := by decide +kernel
theorem dX1_order_0 : decode cX1_order 0 = .ok (.aload_n 0, 1) := by decide +kernel
theorem dX1_order_1 : decode cX1_order 1 = .ok (.getfield 281, 3) := by decide +kernel
theorem dX1_order_4 : decode cX1_order 4 = .ok (.bipush 6, 2) := by decide +kernel
theorem dX1_order_6 : decode cX1_order 6 = .ok (.if_icmp .eq 47, 3) := by decide +kernel
theorem dX1_order_9 : decode cX1_order 9 = .ok (.iload_n 1, 1) := by decide +kernel
theorem dX1_order_10 : decode cX1_order 10 = .ok (.iconst 1, 1) := by decide +kernel
theorem dX1_order_11 : decode cX1_order 11 = .ok (.ldc 111, 2) := by decide +kernel
theorem dX1_order_13 : decode cX1_order 13 = .ok (.invokestatic 94, 3) := by decide +kernel
theorem dX1_order_16 : decode cX1_order 16 = .ok (.ifCond .eq 37, 3) := by decide +kernel
theorem dX1_order_19 : decode cX1_order 19 = .ok (.iload_n 2, 1) := by decide +kernel
theorem dX1_order_20 : decode cX1_order 20 = .ok (.iconst 0, 1) := by decide +kernel
theorem dX1_order_21 : decode cX1_order 21 = .ok (.sipush 1000, 3) := by decide +kernel
theorem dX1_order_24 : decode cX1_order 24 = .ok (.invokestatic 94, 3) := by decide +kernel
theorem dX1_order_27 : decode cX1_order 27 = .ok (.ifCond .eq 26, 3) := by decide +kernel
theorem dX1_order_30 : decode cX1_order 30 = .ok (.iload_n 3, 1) := by decide +kernel
theorem dX1_order_31 : decode cX1_order 31 = .ok (.iload_n 2, 1) := by decide +kernel
theorem dX1_order_32 : decode cX1_order 32 = .ok (.sipush 1000, 3) := by decide +kernel
theorem dX1_order_35 : decode cX1_order 35 = .ok (.invokestatic 94, 3) := by decide +kernel
theorem dX1_order_38 : decode cX1_order 38 = .ok (.ifCond .eq 15, 3) := by decide +kernel
theorem dX1_order_41 : decode cX1_order 41 = .ok (.iload 4, 2) := by decide +kernel
theorem dX1_order_43 : decode cX1_order 43 = .ok (.iconst 0, 1) := by decide +kernel
theorem dX1_order_44 : decode cX1_order 44 = .ok (.sipush 10000, 3) := by decide +kernel
theorem dX1_order_47 : decode cX1_order 47 = .ok (.invokestatic 94, 3) := by decide +kernel
theorem dX1_order_50 : decode cX1_order 50 = .ok (.ifCond .ne 5, 3) := by decide +kernel
theorem dX1_order_53 : decode cX1_order 53 = .ok (.iconst (-1), 1) := by decide +kernel
theorem dX1_order_54 : decode cX1_order 54 = .ok (.ireturn, 1) := by decide +kernel
theorem dX1_order_55 : decode cX1_order 55 = .ok (.aload_n 0, 1) := by decide +kernel
theorem dX1_order_56 : decode cX1_order 56 = .ok (.getfield 51, 3) := by decide +kernel
theorem dX1_order_59 : decode cX1_order 59 = .ok (.aload_n 0, 1) := by decide +kernel
theorem dX1_order_60 : decode cX1_order 60 = .ok (.getfield 281, 3) := by decide +kernel
theorem dX1_order_63 : decode cX1_order 63 = .ok (.iload_n 1, 1) := by decide +kernel
theorem dX1_order_64 : decode cX1_order 64 = .ok (.iastore, 1) := by decide +kernel
theorem dX1_order_65 : decode cX1_order 65 = .ok (.aload_n 0, 1) := by decide +kernel
theorem dX1_order_66 : decode cX1_order 66 = .ok (.getfield 54, 3) := by decide +kernel
theorem dX1_order_69 : decode cX1_order 69 = .ok (.aload_n 0, 1) := by decide +kernel
theorem dX1_order_70 : decode cX1_order 70 = .ok (.getfield 281, 3) := by decide +kernel
theorem dX1_order_73 : decode cX1_order 73 = .ok (.iload_n 2, 1) := by decide +kernel
theorem dX1_order_74 : decode cX1_order 74 = .ok (.iastore, 1) := by decide +kernel
theorem dX1_order_75 : decode cX1_order 75 = .ok (.aload_n 0, 1) := by decide +kernel
theorem dX1_order_76 : decode cX1_order 76 = .ok (.getfield 57, 3) := by decide +kernel
theorem dX1_order_79 : decode cX1_order 79 = .ok (.aload_n 0, 1) := by decide +kernel
theorem dX1_order_80 : decode cX1_order 80 = .ok (.getfield 281, 3) := by decide +kernel
theorem dX1_order_83 : decode cX1_order 83 = .ok (.iload_n 3, 1) := by decide +kernel
theorem dX1_order_84 : decode cX1_order 84 = .ok (.iastore, 1) := by decide +kernel
theorem dX1_order_85 : decode cX1_order 85 = .ok (.aload_n 0, 1) := by decide +kernel
theorem dX1_order_86 : decode cX1_order 86 = .ok (.getfield 60, 3) := by decide +kernel
theorem dX1_order_89 : decode cX1_order 89 = .ok (.aload_n 0, 1) := by decide +kernel
theorem dX1_order_90 : decode cX1_order 90 = .ok (.getfield 281, 3) := by decide +kernel
theorem dX1_order_93 : decode cX1_order 93 = .ok (.iload 4, 2) := by decide +kernel
theorem dX1_order_95 : decode cX1_order 95 = .ok (.iastore, 1) := by decide +kernel
theorem dX1_order_96 : decode cX1_order 96 = .ok (.aload_n 0, 1) := by decide +kernel
theorem dX1_order_97 : decode cX1_order 97 = .ok (.dup, 1) := by decide +kernel
theorem dX1_order_98 : decode cX1_order 98 = .ok (.getfield 281, 3) := by decide +kernel
theorem dX1_order_101 : decode cX1_order 101 = .ok (.iconst 1, 1) := by decide +kernel
theorem dX1_order_102 : decode cX1_order 102 = .ok (.iadd, 1) := by decide +kernel
theorem dX1_order_103 : decode cX1_order 103 = .ok (.putfield 281, 3) := by decide +kernel
theorem dX1_order_106 : decode cX1_order 106 = .ok (.aload_n 0, 1) := by decide +kernel
theorem dX1_order_107 : decode cX1_order 107 = .ok (.getfield 281, 3) := by decide +kernel
theorem dX1_order_110 : decode cX1_order 110 = .ok (.iconst 1, 1) := by decide +kernel
theorem dX1_order_111 : decode cX1_order 111 = .ok (.isub, 1) := by decide +kernel
theorem dX1_order_112 : decode cX1_order 112 = .ok (.ireturn, 1) := by decide +kernel
theorem dX1_clear_0 : decode cX1_clear 0 = .ok (.aload_n 0, 1) := by decide +kernel
theorem dX1_clear_1 : decode cX1_clear 1 = .ok (.getfield 281, 3) := by decide +kernel
theorem dX1_clear_4 : decode cX1_clear 4 = .ok (.istore_n 1, 1) := by decide +kernel
theorem dX1_clear_5 : decode cX1_clear 5 = .ok (.aload_n 0, 1) := by decide +kernel
theorem dX1_clear_6 : decode cX1_clear 6 = .ok (.iconst 0, 1) := by decide +kernel
theorem dX1_clear_7 : decode cX1_clear 7 = .ok (.putfield 281, 3) := by decide +kernel
theorem dX1_clear_10 : decode cX1_clear 10 = .ok (.iload_n 1, 1) := by decide +kernel
theorem dX1_clear_11 : decode cX1_clear 11 = .ok (.ireturn, 1) := by decide +kernel
theorem dX1_meets_0 : decode cX1_meets 0 = .ok (.iload_n 1, 1) := by decide +kernel
theorem dX1_meets_1 : decode cX1_meets 1 = .ok (.iconst 0, 1) := by decide +kernel
theorem dX1_meets_2 : decode cX1_meets 2 = .ok (.aload_n 0, 1) := by decide +kernel
theorem dX1_meets_3 : decode cX1_meets 3 = .ok (.getfield 25, 3) := by decide +kernel
theorem dX1_meets_6 : decode cX1_meets 6 = .ok (.invokevirtual 91, 3) := by decide +kernel
theorem dX1_meets_9 : decode cX1_meets 9 = .ok (.iconst 1, 1) := by decide +kernel
theorem dX1_meets_10 : decode cX1_meets 10 = .ok (.isub, 1) := by decide +kernel
theorem dX1_meets_11 : decode cX1_meets 11 = .ok (.invokestatic 94, 3) := by decide +kernel
theorem dX1_meets_14 : decode cX1_meets 14 = .ok (.ifCond .eq 17, 3) := by decide +kernel
theorem dX1_meets_17 : decode cX1_meets 17 = .ok (.iload_n 2, 1) := by decide +kernel
theorem dX1_meets_18 : decode cX1_meets 18 = .ok (.iconst 0, 1) := by decide +kernel
theorem dX1_meets_19 : decode cX1_meets 19 = .ok (.aload_n 0, 1) := by decide +kernel
theorem dX1_meets_20 : decode cX1_meets 20 = .ok (.getfield 281, 3) := by decide +kernel
theorem dX1_meets_23 : decode cX1_meets 23 = .ok (.iconst 1, 1) := by decide +kernel
theorem dX1_meets_24 : decode cX1_meets 24 = .ok (.isub, 1) := by decide +kernel
theorem dX1_meets_25 : decode cX1_meets 25 = .ok (.invokestatic 94, 3) := by decide +kernel
theorem dX1_meets_28 : decode cX1_meets 28 = .ok (.ifCond .ne 5, 3) := by decide +kernel
theorem dX1_meets_31 : decode cX1_meets 31 = .ok (.iconst (-1), 1) := by decide +kernel
theorem dX1_meets_32 : decode cX1_meets 32 = .ok (.ireturn, 1) := by decide +kernel
theorem dX1_meets_33 : decode cX1_meets 33 = .ok (.aload_n 0, 1) := by decide +kernel
theorem dX1_meets_34 : decode cX1_meets 34 = .ok (.aload_n 0, 1) := by decide +kernel
theorem dX1_meets_35 : decode cX1_meets 35 = .ok (.getfield 25, 3) := by decide +kernel
theorem dX1_meets_38 : decode cX1_meets 38 = .ok (.iload_n 1, 1) := by decide +kernel
theorem dX1_meets_39 : decode cX1_meets 39 = .ok (.invokevirtual 98, 3) := by decide +kernel
theorem dX1_meets_42 : decode cX1_meets 42 = .ok (.checkcast 102, 3) := by decide +kernel
theorem dX1_meets_45 : decode cX1_meets 45 = .ok (.iload_n 2, 1) := by decide +kernel
theorem dX1_meets_46 : decode cX1_meets 46 = .ok (.invokevirtual 284, 3) := by decide +kernel
theorem dX1_meets_49 : decode cX1_meets 49 = .ok (.ifCond .eq 7, 3) := by decide +kernel
theorem dX1_meets_52 : decode cX1_meets 52 = .ok (.iconst 1, 1) := by decide +kernel
theorem dX1_meets_53 : decode cX1_meets 53 = .ok (.goto 4, 3) := by decide +kernel
theorem dX1_meets_56 : decode cX1_meets 56 = .ok (.iconst 0, 1) := by decide +kernel
theorem dX1_meets_57 : decode cX1_meets 57 = .ok (.ireturn, 1) := by decide +kernel
theorem dX1_doesMeet_0 : decode cX1_doesMeet 0 = .ok (.aload_n 1, 1) := by decide +kernel
theorem dX1_doesMeet_1 : decode cX1_doesMeet 1 = .ok (.invokevirtual 104, 3) := by decide +kernel
theorem dX1_doesMeet_4 : decode cX1_doesMeet 4 = .ok (.ifCond .eq 24, 3) := by decide +kernel
theorem dX1_doesMeet_7 : decode cX1_doesMeet 7 = .ok (.aload_n 0, 1) := by decide +kernel
theorem dX1_doesMeet_8 : decode cX1_doesMeet 8 = .ok (.aload_n 1, 1) := by decide +kernel
theorem dX1_doesMeet_9 : decode cX1_doesMeet 9 = .ok (.invokevirtual 235, 3) := by decide +kernel
theorem dX1_doesMeet_12 : decode cX1_doesMeet 12 = .ok (.ifCond .eq 16, 3) := by decide +kernel
theorem dX1_doesMeet_15 : decode cX1_doesMeet 15 = .ok (.aload_n 1, 1) := by decide +kernel
theorem dX1_doesMeet_16 : decode cX1_doesMeet 16 = .ok (.invokevirtual 134, 3) := by decide +kernel
theorem dX1_doesMeet_19 : decode cX1_doesMeet 19 = .ok (.aload_n 0, 1) := by decide +kernel
theorem dX1_doesMeet_20 : decode cX1_doesMeet 20 = .ok (.getfield 51, 3) := by decide +kernel
theorem dX1_doesMeet_23 : decode cX1_doesMeet 23 = .ok (.iload_n 2, 1) := by decide +kernel
theorem dX1_doesMeet_24 : decode cX1_doesMeet 24 = .ok (.iaload, 1) := by decide +kernel
theorem dX1_doesMeet_25 : decode cX1_doesMeet 25 = .ok (.if_icmp .ge 5, 3) := by decide +kernel
theorem dX1_doesMeet_28 : decode cX1_doesMeet 28 = .ok (.iconst 0, 1) := by decide +kernel
theorem dX1_doesMeet_29 : decode cX1_doesMeet 29 = .ok (.ireturn, 1) := by decide +kernel
theorem dX1_doesMeet_30 : decode cX1_doesMeet 30 = .ok (.aload_n 0, 1) := by decide +kernel
theorem dX1_doesMeet_31 : decode cX1_doesMeet 31 = .ok (.aload_n 1, 1) := by decide +kernel
theorem dX1_doesMeet_32 : decode cX1_doesMeet 32 = .ok (.aload_n 0, 1) := by decide +kernel
theorem dX1_doesMeet_33 : decode cX1_doesMeet 33 = .ok (.getfield 117, 3) := by decide +kernel
theorem dX1_doesMeet_36 : decode cX1_doesMeet 36 = .ok (.aload_n 0, 1) := by decide +kernel
theorem dX1_doesMeet_37 : decode cX1_doesMeet 37 = .ok (.getfield 29, 3) := by decide +kernel
theorem dX1_doesMeet_40 : decode cX1_doesMeet 40 = .ok (.invokevirtual 91, 3) := by decide +kernel
theorem dX1_doesMeet_43 : decode cX1_doesMeet 43 = .ok (.iconst 0, 1) := by decide +kernel
theorem dX1_doesMeet_44 : decode cX1_doesMeet 44 = .ok (.invokevirtual 216, 3) := by decide +kernel
theorem dX1_doesMeet_47 : decode cX1_doesMeet 47 = .ok (.aload_n 0, 1) := by decide +kernel
theorem dX1_doesMeet_48 : decode cX1_doesMeet 48 = .ok (.getfield 54, 3) := by decide +kernel
theorem dX1_doesMeet_51 : decode cX1_doesMeet 51 = .ok (.iload_n 2, 1) := by decide +kernel
theorem dX1_doesMeet_52 : decode cX1_doesMeet 52 = .ok (.iaload, 1) := by decide +kernel
theorem dX1_doesMeet_53 : decode cX1_doesMeet 53 = .ok (.if_icmp .lt 33, 3) := by decide +kernel
theorem dX1_doesMeet_56 : decode cX1_doesMeet 56 = .ok (.aload_n 0, 1) := by decide +kernel
theorem dX1_doesMeet_57 : decode cX1_doesMeet 57 = .ok (.aload_n 1, 1) := by decide +kernel
theorem dX1_doesMeet_58 : decode cX1_doesMeet 58 = .ok (.aload_n 0, 1) := by decide +kernel
theorem dX1_doesMeet_59 : decode cX1_doesMeet 59 = .ok (.getfield 117, 3) := by decide +kernel
theorem dX1_doesMeet_62 : decode cX1_doesMeet 62 = .ok (.aload_n 0, 1) := by decide +kernel
theorem dX1_doesMeet_63 : decode cX1_doesMeet 63 = .ok (.getfield 29, 3) := by decide +kernel
theorem dX1_doesMeet_66 : decode cX1_doesMeet 66 = .ok (.invokevirtual 91, 3) := by decide +kernel
theorem dX1_doesMeet_69 : decode cX1_doesMeet 69 = .ok (.iconst 1, 1) := by decide +kernel
theorem dX1_doesMeet_70 : decode cX1_doesMeet 70 = .ok (.invokevirtual 216, 3) := by decide +kernel
theorem dX1_doesMeet_73 : decode cX1_doesMeet 73 = .ok (.aload_n 0, 1) := by decide +kernel
theorem dX1_doesMeet_74 : decode cX1_doesMeet 74 = .ok (.getfield 57, 3) := by decide +kernel
theorem dX1_doesMeet_77 : decode cX1_doesMeet 77 = .ok (.iload_n 2, 1) := by decide +kernel
theorem dX1_doesMeet_78 : decode cX1_doesMeet 78 = .ok (.iaload, 1) := by decide +kernel
theorem dX1_doesMeet_79 : decode cX1_doesMeet 79 = .ok (.if_icmp .gt 7, 3) := by decide +kernel
theorem dX1_doesMeet_82 : decode cX1_doesMeet 82 = .ok (.iconst 1, 1) := by decide +kernel
theorem dX1_doesMeet_83 : decode cX1_doesMeet 83 = .ok (.goto 4, 3) := by decide +kernel
theorem dX1_doesMeet_86 : decode cX1_doesMeet 86 = .ok (.iconst 0, 1) := by decide +kernel
theorem dX1_doesMeet_87 : decode cX1_doesMeet 87 = .ok (.ireturn, 1) := by decide +kernel
theorem dX1_plan_0 : decode cX1_plan 0 = .ok (.aload_n 0, 1) := by decide +kernel
theorem dX1_plan_1 : decode cX1_plan 1 = .ok (.invokevirtual 297, 3) := by decide +kernel
theorem dX1_plan_4 : decode cX1_plan 4 = .ok (.aload_n 0, 1) := by decide +kernel
theorem dX1_plan_5 : decode cX1_plan 5 = .ok (.getfield 288, 3) := by decide +kernel
theorem dX1_plan_8 : decode cX1_plan 8 = .ok (.ireturn, 1) := by decide +kernel
theorem dX1_plans_0 : decode cX1_plans 0 = .ok (.iconst 0, 1) := by decide +kernel
theorem dX1_plans_1 : decode cX1_plans 1 = .ok (.istore_n 1, 1) := by decide +kernel
theorem dX1_plans_2 : decode cX1_plans 2 = .ok (.iload_n 1, 1) := by decide +kernel
theorem dX1_plans_3 : decode cX1_plans 3 = .ok (.aload_n 0, 1) := by decide +kernel
theorem dX1_plans_4 : decode cX1_plans 4 = .ok (.getfield 281, 3) := by decide +kernel
theorem dX1_plans_7 : decode cX1_plans 7 = .ok (.if_icmp .ge 55, 3) := by decide +kernel
theorem dX1_plans_10 : decode cX1_plans 10 = .ok (.iconst 0, 1) := by decide +kernel
theorem dX1_plans_11 : decode cX1_plans 11 = .ok (.istore_n 2, 1) := by decide +kernel
theorem dX1_plans_12 : decode cX1_plans 12 = .ok (.iload_n 2, 1) := by decide +kernel
theorem dX1_plans_13 : decode cX1_plans 13 = .ok (.aload_n 0, 1) := by decide +kernel
theorem dX1_plans_14 : decode cX1_plans 14 = .ok (.getfield 25, 3) := by decide +kernel
theorem dX1_plans_17 : decode cX1_plans 17 = .ok (.invokevirtual 91, 3) := by decide +kernel
theorem dX1_plans_20 : decode cX1_plans 20 = .ok (.if_icmp .ge 36, 3) := by decide +kernel
theorem dX1_plans_23 : decode cX1_plans 23 = .ok (.aload_n 0, 1) := by decide +kernel
theorem dX1_plans_24 : decode cX1_plans 24 = .ok (.getfield 69, 3) := by decide +kernel
theorem dX1_plans_27 : decode cX1_plans 27 = .ok (.bipush 10, 2) := by decide +kernel
theorem dX1_plans_29 : decode cX1_plans 29 = .ok (.iload_n 1, 1) := by decide +kernel
theorem dX1_plans_30 : decode cX1_plans 30 = .ok (.imul, 1) := by decide +kernel
theorem dX1_plans_31 : decode cX1_plans 31 = .ok (.iload_n 2, 1) := by decide +kernel
theorem dX1_plans_32 : decode cX1_plans 32 = .ok (.iadd, 1) := by decide +kernel
theorem dX1_plans_33 : decode cX1_plans 33 = .ok (.aload_n 0, 1) := by decide +kernel
theorem dX1_plans_34 : decode cX1_plans 34 = .ok (.aload_n 0, 1) := by decide +kernel
theorem dX1_plans_35 : decode cX1_plans 35 = .ok (.getfield 25, 3) := by decide +kernel
theorem dX1_plans_38 : decode cX1_plans 38 = .ok (.iload_n 2, 1) := by decide +kernel
theorem dX1_plans_39 : decode cX1_plans 39 = .ok (.invokevirtual 98, 3) := by decide +kernel
theorem dX1_plans_42 : decode cX1_plans 42 = .ok (.checkcast 102, 3) := by decide +kernel
theorem dX1_plans_45 : decode cX1_plans 45 = .ok (.iload_n 1, 1) := by decide +kernel
theorem dX1_plans_46 : decode cX1_plans 46 = .ok (.invokevirtual 284, 3) := by decide +kernel
theorem dX1_plans_49 : decode cX1_plans 49 = .ok (.bastore, 1) := by decide +kernel
theorem dX1_plans_50 : decode cX1_plans 50 = .ok (.iinc 2 1, 3) := by decide +kernel
theorem dX1_plans_53 : decode cX1_plans 53 = .ok (.goto (-41), 3) := by decide +kernel
theorem dX1_plans_56 : decode cX1_plans 56 = .ok (.iinc 1 1, 3) := by decide +kernel
theorem dX1_plans_59 : decode cX1_plans 59 = .ok (.goto (-57), 3) := by decide +kernel
theorem dX1_plans_62 : decode cX1_plans 62 = .ok (.iconst 0, 1) := by decide +kernel
theorem dX1_plans_63 : decode cX1_plans 63 = .ok (.istore_n 1, 1) := by decide +kernel
theorem dX1_plans_64 : decode cX1_plans 64 = .ok (.iload_n 1, 1) := by decide +kernel
theorem dX1_plans_65 : decode cX1_plans 65 = .ok (.aload_n 0, 1) := by decide +kernel
theorem dX1_plans_66 : decode cX1_plans 66 = .ok (.getfield 25, 3) := by decide +kernel
theorem dX1_plans_69 : decode cX1_plans 69 = .ok (.invokevirtual 91, 3) := by decide +kernel
theorem dX1_plans_72 : decode cX1_plans 72 = .ok (.if_icmp .ge 29, 3) := by decide +kernel
theorem dX1_plans_75 : decode cX1_plans 75 = .ok (.aload_n 0, 1) := by decide +kernel
theorem dX1_plans_76 : decode cX1_plans 76 = .ok (.getfield 73, 3) := by decide +kernel
theorem dX1_plans_79 : decode cX1_plans 79 = .ok (.iload_n 1, 1) := by decide +kernel
theorem dX1_plans_80 : decode cX1_plans 80 = .ok (.aload_n 0, 1) := by decide +kernel
theorem dX1_plans_81 : decode cX1_plans 81 = .ok (.getfield 25, 3) := by decide +kernel
theorem dX1_plans_84 : decode cX1_plans 84 = .ok (.iload_n 1, 1) := by decide +kernel
theorem dX1_plans_85 : decode cX1_plans 85 = .ok (.invokevirtual 98, 3) := by decide +kernel
theorem dX1_plans_88 : decode cX1_plans 88 = .ok (.checkcast 102, 3) := by decide +kernel
theorem dX1_plans_91 : decode cX1_plans 91 = .ok (.invokevirtual 134, 3) := by decide +kernel
theorem dX1_plans_94 : decode cX1_plans 94 = .ok (.iastore, 1) := by decide +kernel
theorem dX1_plans_95 : decode cX1_plans 95 = .ok (.iinc 1 1, 3) := by decide +kernel
theorem dX1_plans_98 : decode cX1_plans 98 = .ok (.goto (-34), 3) := by decide +kernel
theorem dX1_plans_101 : decode cX1_plans 101 = .ok (.aload_n 0, 1) := by decide +kernel
theorem dX1_plans_102 : decode cX1_plans 102 = .ok (.getfield 76, 3) := by decide +kernel
theorem dX1_plans_105 : decode cX1_plans 105 = .ok (.aload_n 0, 1) := by decide +kernel
theorem dX1_plans_106 : decode cX1_plans 106 = .ok (.getfield 281, 3) := by decide +kernel
theorem dX1_plans_109 : decode cX1_plans 109 = .ok (.iconst 0, 1) := by decide +kernel
theorem dX1_plans_110 : decode cX1_plans 110 = .ok (.iastore, 1) := by decide +kernel
theorem dX1_plans_111 : decode cX1_plans 111 = .ok (.aload_n 0, 1) := by decide +kernel
theorem dX1_plans_112 : decode cX1_plans 112 = .ok (.getfield 281, 3) := by decide +kernel
theorem dX1_plans_115 : decode cX1_plans 115 = .ok (.iconst 1, 1) := by decide +kernel
theorem dX1_plans_116 : decode cX1_plans 116 = .ok (.isub, 1) := by decide +kernel
theorem dX1_plans_117 : decode cX1_plans 117 = .ok (.istore_n 1, 1) := by decide +kernel
theorem dX1_plans_118 : decode cX1_plans 118 = .ok (.iload_n 1, 1) := by decide +kernel
theorem dX1_plans_119 : decode cX1_plans 119 = .ok (.ifCond .lt 30, 3) := by decide +kernel
theorem dX1_plans_122 : decode cX1_plans 122 = .ok (.aload_n 0, 1) := by decide +kernel
theorem dX1_plans_123 : decode cX1_plans 123 = .ok (.getfield 76, 3) := by decide +kernel
theorem dX1_plans_126 : decode cX1_plans 126 = .ok (.iload_n 1, 1) := by decide +kernel
theorem dX1_plans_127 : decode cX1_plans 127 = .ok (.aload_n 0, 1) := by decide +kernel
theorem dX1_plans_128 : decode cX1_plans 128 = .ok (.getfield 76, 3) := by decide +kernel
theorem dX1_plans_131 : decode cX1_plans 131 = .ok (.iload_n 1, 1) := by decide +kernel
theorem dX1_plans_132 : decode cX1_plans 132 = .ok (.iconst 1, 1) := by decide +kernel
theorem dX1_plans_133 : decode cX1_plans 133 = .ok (.iadd, 1) := by decide +kernel
theorem dX1_plans_134 : decode cX1_plans 134 = .ok (.iaload, 1) := by decide +kernel
theorem dX1_plans_135 : decode cX1_plans 135 = .ok (.aload_n 0, 1) := by decide +kernel
theorem dX1_plans_136 : decode cX1_plans 136 = .ok (.getfield 60, 3) := by decide +kernel
theorem dX1_plans_139 : decode cX1_plans 139 = .ok (.iload_n 1, 1) := by decide +kernel
theorem dX1_plans_140 : decode cX1_plans 140 = .ok (.iaload, 1) := by decide +kernel
theorem dX1_plans_141 : decode cX1_plans 141 = .ok (.iadd, 1) := by decide +kernel
theorem dX1_plans_142 : decode cX1_plans 142 = .ok (.iastore, 1) := by decide +kernel
theorem dX1_plans_143 : decode cX1_plans 143 = .ok (.iinc 1 (-1), 3) := by decide +kernel
theorem dX1_plans_146 : decode cX1_plans 146 = .ok (.goto (-28), 3) := by decide +kernel
theorem dX1_plans_149 : decode cX1_plans 149 = .ok (.aload_n 0, 1) := by decide +kernel
theorem dX1_plans_150 : decode cX1_plans 150 = .ok (.iconst (-1), 1) := by decide +kernel
theorem dX1_plans_151 : decode cX1_plans 151 = .ok (.putfield 288, 3) := by decide +kernel
theorem dX1_plans_154 : decode cX1_plans 154 = .ok (.aload_n 0, 1) := by decide +kernel
theorem dX1_plans_155 : decode cX1_plans 155 = .ok (.iconst 0, 1) := by decide +kernel
theorem dX1_plans_156 : decode cX1_plans 156 = .ok (.putfield 291, 3) := by decide +kernel
theorem dX1_plans_159 : decode cX1_plans 159 = .ok (.aload_n 0, 1) := by decide +kernel
theorem dX1_plans_160 : decode cX1_plans 160 = .ok (.iconst 0, 1) := by decide +kernel
theorem dX1_plans_161 : decode cX1_plans 161 = .ok (.iconst 0, 1) := by decide +kernel
theorem dX1_plans_162 : decode cX1_plans 162 = .ok (.iconst 0, 1) := by decide +kernel
theorem dX1_plans_163 : decode cX1_plans 163 = .ok (.iconst 0, 1) := by decide +kernel
theorem dX1_plans_164 : decode cX1_plans 164 = .ok (.invokevirtual 294, 3) := by decide +kernel
theorem dX1_plans_167 : decode cX1_plans 167 = .ok (.return_, 1) := by decide +kernel
theorem dX1_tries_0 : decode cX1_tries 0 = .ok (.iload_n 1, 1) := by decide +kernel
theorem dX1_tries_1 : decode cX1_tries 1 = .ok (.aload_n 0, 1) := by decide +kernel
theorem dX1_tries_2 : decode cX1_tries 2 = .ok (.getfield 281, 3) := by decide +kernel
theorem dX1_tries_5 : decode cX1_tries 5 = .ok (.if_icmp .ne 73, 3) := by decide +kernel
theorem dX1_tries_8 : decode cX1_tries 8 = .ok (.iload_n 3, 1) := by decide +kernel
theorem dX1_tries_9 : decode cX1_tries 9 = .ok (.aload_n 0, 1) := by decide +kernel
theorem dX1_tries_10 : decode cX1_tries 10 = .ok (.getfield 288, 3) := by decide +kernel
theorem dX1_tries_13 : decode cX1_tries 13 = .ok (.if_icmp .lt 20, 3) := by decide +kernel
theorem dX1_tries_16 : decode cX1_tries 16 = .ok (.iload_n 3, 1) := by decide +kernel
theorem dX1_tries_17 : decode cX1_tries 17 = .ok (.aload_n 0, 1) := by decide +kernel
theorem dX1_tries_18 : decode cX1_tries 18 = .ok (.getfield 288, 3) := by decide +kernel
theorem dX1_tries_21 : decode cX1_tries 21 = .ok (.if_icmp .ne 13, 3) := by decide +kernel
theorem dX1_tries_24 : decode cX1_tries 24 = .ok (.iload 4, 2) := by decide +kernel
theorem dX1_tries_26 : decode cX1_tries 26 = .ok (.aload_n 0, 1) := by decide +kernel
theorem dX1_tries_27 : decode cX1_tries 27 = .ok (.getfield 291, 3) := by decide +kernel
theorem dX1_tries_30 : decode cX1_tries 30 = .ok (.if_icmp .lt 4, 3) := by decide +kernel
theorem dX1_tries_33 : decode cX1_tries 33 = .ok (.return_, 1) := by decide +kernel
theorem dX1_tries_34 : decode cX1_tries 34 = .ok (.aload_n 0, 1) := by decide +kernel
theorem dX1_tries_35 : decode cX1_tries 35 = .ok (.iload_n 3, 1) := by decide +kernel
theorem dX1_tries_36 : decode cX1_tries 36 = .ok (.putfield 288, 3) := by decide +kernel
theorem dX1_tries_39 : decode cX1_tries 39 = .ok (.aload_n 0, 1) := by decide +kernel
theorem dX1_tries_40 : decode cX1_tries 40 = .ok (.iload 4, 2) := by decide +kernel
theorem dX1_tries_42 : decode cX1_tries 42 = .ok (.putfield 291, 3) := by decide +kernel
theorem dX1_tries_45 : decode cX1_tries 45 = .ok (.iconst 0, 1) := by decide +kernel
theorem dX1_tries_46 : decode cX1_tries 46 = .ok (.istore 5, 2) := by decide +kernel
theorem dX1_tries_48 : decode cX1_tries 48 = .ok (.iload 5, 2) := by decide +kernel
theorem dX1_tries_50 : decode cX1_tries 50 = .ok (.aload_n 0, 1) := by decide +kernel
theorem dX1_tries_51 : decode cX1_tries 51 = .ok (.getfield 281, 3) := by decide +kernel
theorem dX1_tries_54 : decode cX1_tries 54 = .ok (.if_icmp .ge 23, 3) := by decide +kernel
theorem dX1_tries_57 : decode cX1_tries 57 = .ok (.aload_n 0, 1) := by decide +kernel
theorem dX1_tries_58 : decode cX1_tries 58 = .ok (.getfield 66, 3) := by decide +kernel
theorem dX1_tries_61 : decode cX1_tries 61 = .ok (.iload 5, 2) := by decide +kernel
theorem dX1_tries_63 : decode cX1_tries 63 = .ok (.aload_n 0, 1) := by decide +kernel
theorem dX1_tries_64 : decode cX1_tries 64 = .ok (.getfield 63, 3) := by decide +kernel
theorem dX1_tries_67 : decode cX1_tries 67 = .ok (.iload 5, 2) := by decide +kernel
theorem dX1_tries_69 : decode cX1_tries 69 = .ok (.iaload, 1) := by decide +kernel
theorem dX1_tries_70 : decode cX1_tries 70 = .ok (.iastore, 1) := by decide +kernel
theorem dX1_tries_71 : decode cX1_tries 71 = .ok (.iinc 5 1, 3) := by decide +kernel
theorem dX1_tries_74 : decode cX1_tries 74 = .ok (.goto (-26), 3) := by decide +kernel
theorem dX1_tries_77 : decode cX1_tries 77 = .ok (.return_, 1) := by decide +kernel
theorem dX1_tries_78 : decode cX1_tries 78 = .ok (.iconst 0, 1) := by decide +kernel
theorem dX1_tries_79 : decode cX1_tries 79 = .ok (.istore 5, 2) := by decide +kernel
theorem dX1_tries_81 : decode cX1_tries 81 = .ok (.iload 5, 2) := by decide +kernel
theorem dX1_tries_83 : decode cX1_tries 83 = .ok (.aload_n 0, 1) := by decide +kernel
theorem dX1_tries_84 : decode cX1_tries 84 = .ok (.getfield 25, 3) := by decide +kernel
theorem dX1_tries_87 : decode cX1_tries 87 = .ok (.invokevirtual 91, 3) := by decide +kernel
theorem dX1_tries_90 : decode cX1_tries 90 = .ok (.if_icmp .ge 76, 3) := by decide +kernel
theorem dX1_tries_93 : decode cX1_tries 93 = .ok (.iload_n 2, 1) := by decide +kernel
theorem dX1_tries_94 : decode cX1_tries 94 = .ok (.iload 5, 2) := by decide +kernel
theorem dX1_tries_96 : decode cX1_tries 96 = .ok (.ishr, 1) := by decide +kernel
theorem dX1_tries_97 : decode cX1_tries 97 = .ok (.iconst 1, 1) := by decide +kernel
theorem dX1_tries_98 : decode cX1_tries 98 = .ok (.iand, 1) := by decide +kernel
theorem dX1_tries_99 : decode cX1_tries 99 = .ok (.iconst 1, 1) := by decide +kernel
theorem dX1_tries_100 : decode cX1_tries 100 = .ok (.if_icmp .eq 60, 3) := by decide +kernel
theorem dX1_tries_103 : decode cX1_tries 103 = .ok (.aload_n 0, 1) := by decide +kernel
theorem dX1_tries_104 : decode cX1_tries 104 = .ok (.getfield 69, 3) := by decide +kernel
theorem dX1_tries_107 : decode cX1_tries 107 = .ok (.bipush 10, 2) := by decide +kernel
theorem dX1_tries_109 : decode cX1_tries 109 = .ok (.iload_n 1, 1) := by decide +kernel
theorem dX1_tries_110 : decode cX1_tries 110 = .ok (.imul, 1) := by decide +kernel
theorem dX1_tries_111 : decode cX1_tries 111 = .ok (.iload 5, 2) := by decide +kernel
theorem dX1_tries_113 : decode cX1_tries 113 = .ok (.iadd, 1) := by decide +kernel
theorem dX1_tries_114 : decode cX1_tries 114 = .ok (.baload, 1) := by decide +kernel
theorem dX1_tries_115 : decode cX1_tries 115 = .ok (.ifCond .ne 6, 3) := by decide +kernel
theorem dX1_tries_118 : decode cX1_tries 118 = .ok (.goto 42, 3) := by decide +kernel
theorem dX1_tries_121 : decode cX1_tries 121 = .ok (.aload_n 0, 1) := by decide +kernel
theorem dX1_tries_122 : decode cX1_tries 122 = .ok (.getfield 63, 3) := by decide +kernel
theorem dX1_tries_125 : decode cX1_tries 125 = .ok (.iload_n 1, 1) := by decide +kernel
theorem dX1_tries_126 : decode cX1_tries 126 = .ok (.iload 5, 2) := by decide +kernel
theorem dX1_tries_128 : decode cX1_tries 128 = .ok (.iastore, 1) := by decide +kernel
theorem dX1_tries_129 : decode cX1_tries 129 = .ok (.aload_n 0, 1) := by decide +kernel
theorem dX1_tries_130 : decode cX1_tries 130 = .ok (.iload_n 1, 1) := by decide +kernel
theorem dX1_tries_131 : decode cX1_tries 131 = .ok (.iconst 1, 1) := by decide +kernel
theorem dX1_tries_132 : decode cX1_tries 132 = .ok (.iadd, 1) := by decide +kernel
theorem dX1_tries_133 : decode cX1_tries 133 = .ok (.iload_n 2, 1) := by decide +kernel
theorem dX1_tries_134 : decode cX1_tries 134 = .ok (.iconst 1, 1) := by decide +kernel
theorem dX1_tries_135 : decode cX1_tries 135 = .ok (.iload 5, 2) := by decide +kernel
theorem dX1_tries_137 : decode cX1_tries 137 = .ok (.ishl, 1) := by decide +kernel
theorem dX1_tries_138 : decode cX1_tries 138 = .ok (.ior, 1) := by decide +kernel
theorem dX1_tries_139 : decode cX1_tries 139 = .ok (.iload_n 3, 1) := by decide +kernel
theorem dX1_tries_140 : decode cX1_tries 140 = .ok (.aload_n 0, 1) := by decide +kernel
theorem dX1_tries_141 : decode cX1_tries 141 = .ok (.getfield 60, 3) := by decide +kernel
theorem dX1_tries_144 : decode cX1_tries 144 = .ok (.iload_n 1, 1) := by decide +kernel
theorem dX1_tries_145 : decode cX1_tries 145 = .ok (.iaload, 1) := by decide +kernel
theorem dX1_tries_146 : decode cX1_tries 146 = .ok (.iadd, 1) := by decide +kernel
theorem dX1_tries_147 : decode cX1_tries 147 = .ok (.iload 4, 2) := by decide +kernel
theorem dX1_tries_149 : decode cX1_tries 149 = .ok (.aload_n 0, 1) := by decide +kernel
theorem dX1_tries_150 : decode cX1_tries 150 = .ok (.getfield 73, 3) := by decide +kernel
theorem dX1_tries_153 : decode cX1_tries 153 = .ok (.iload 5, 2) := by decide +kernel
theorem dX1_tries_155 : decode cX1_tries 155 = .ok (.iaload, 1) := by decide +kernel
theorem dX1_tries_156 : decode cX1_tries 156 = .ok (.iadd, 1) := by decide +kernel
theorem dX1_tries_157 : decode cX1_tries 157 = .ok (.invokevirtual 294, 3) := by decide +kernel
theorem dX1_tries_160 : decode cX1_tries 160 = .ok (.iinc 5 1, 3) := by decide +kernel
theorem dX1_tries_163 : decode cX1_tries 163 = .ok (.goto (-82), 3) := by decide +kernel
theorem dX1_tries_166 : decode cX1_tries 166 = .ok (.aload_n 0, 1) := by decide +kernel
theorem dX1_tries_167 : decode cX1_tries 167 = .ok (.getfield 63, 3) := by decide +kernel
theorem dX1_tries_170 : decode cX1_tries 170 = .ok (.iload_n 1, 1) := by decide +kernel
theorem dX1_tries_171 : decode cX1_tries 171 = .ok (.iconst (-1), 1) := by decide +kernel
theorem dX1_tries_172 : decode cX1_tries 172 = .ok (.iastore, 1) := by decide +kernel
theorem dX1_tries_173 : decode cX1_tries 173 = .ok (.iload_n 3, 1) := by decide +kernel
theorem dX1_tries_174 : decode cX1_tries 174 = .ok (.aload_n 0, 1) := by decide +kernel
theorem dX1_tries_175 : decode cX1_tries 175 = .ok (.getfield 76, 3) := by decide +kernel
theorem dX1_tries_178 : decode cX1_tries 178 = .ok (.iload_n 1, 1) := by decide +kernel
theorem dX1_tries_179 : decode cX1_tries 179 = .ok (.iconst 1, 1) := by decide +kernel
theorem dX1_tries_180 : decode cX1_tries 180 = .ok (.iadd, 1) := by decide +kernel
theorem dX1_tries_181 : decode cX1_tries 181 = .ok (.iaload, 1) := by decide +kernel
theorem dX1_tries_182 : decode cX1_tries 182 = .ok (.iadd, 1) := by decide +kernel
theorem dX1_tries_183 : decode cX1_tries 183 = .ok (.aload_n 0, 1) := by decide +kernel
theorem dX1_tries_184 : decode cX1_tries 184 = .ok (.getfield 288, 3) := by decide +kernel
theorem dX1_tries_187 : decode cX1_tries 187 = .ok (.if_icmp .lt 14, 3) := by decide +kernel
theorem dX1_tries_190 : decode cX1_tries 190 = .ok (.aload_n 0, 1) := by decide +kernel
theorem dX1_tries_191 : decode cX1_tries 191 = .ok (.iload_n 1, 1) := by decide +kernel
theorem dX1_tries_192 : decode cX1_tries 192 = .ok (.iconst 1, 1) := by decide +kernel
theorem dX1_tries_193 : decode cX1_tries 193 = .ok (.iadd, 1) := by decide +kernel
theorem dX1_tries_194 : decode cX1_tries 194 = .ok (.iload_n 2, 1) := by decide +kernel
theorem dX1_tries_195 : decode cX1_tries 195 = .ok (.iload_n 3, 1) := by decide +kernel
theorem dX1_tries_196 : decode cX1_tries 196 = .ok (.iload 4, 2) := by decide +kernel
theorem dX1_tries_198 : decode cX1_tries 198 = .ok (.invokevirtual 294, 3) := by decide +kernel
theorem dX1_tries_201 : decode cX1_tries 201 = .ok (.return_, 1) := by decide +kernel
theorem dX1_planned_0 : decode cX1_planned 0 = .ok (.iload_n 1, 1) := by decide +kernel
theorem dX1_planned_1 : decode cX1_planned 1 = .ok (.iconst 0, 1) := by decide +kernel
theorem dX1_planned_2 : decode cX1_planned 2 = .ok (.aload_n 0, 1) := by decide +kernel
theorem dX1_planned_3 : decode cX1_planned 3 = .ok (.getfield 281, 3) := by decide +kernel
theorem dX1_planned_6 : decode cX1_planned 6 = .ok (.iconst 1, 1) := by decide +kernel
theorem dX1_planned_7 : decode cX1_planned 7 = .ok (.isub, 1) := by decide +kernel
theorem dX1_planned_8 : decode cX1_planned 8 = .ok (.invokestatic 94, 3) := by decide +kernel
theorem dX1_planned_11 : decode cX1_planned 11 = .ok (.ifCond .ne 5, 3) := by decide +kernel
theorem dX1_planned_14 : decode cX1_planned 14 = .ok (.iconst (-1), 1) := by decide +kernel
theorem dX1_planned_15 : decode cX1_planned 15 = .ok (.ireturn, 1) := by decide +kernel
theorem dX1_planned_16 : decode cX1_planned 16 = .ok (.aload_n 0, 1) := by decide +kernel
theorem dX1_planned_17 : decode cX1_planned 17 = .ok (.invokevirtual 297, 3) := by decide +kernel
theorem dX1_planned_20 : decode cX1_planned 20 = .ok (.aload_n 0, 1) := by decide +kernel
theorem dX1_planned_21 : decode cX1_planned 21 = .ok (.getfield 66, 3) := by decide +kernel
theorem dX1_planned_24 : decode cX1_planned 24 = .ok (.iload_n 1, 1) := by decide +kernel
theorem dX1_planned_25 : decode cX1_planned 25 = .ok (.iaload, 1) := by decide +kernel
theorem dX1_planned_26 : decode cX1_planned 26 = .ok (.ireturn, 1) := by decide +kernel
theorem dX1_count_0 : decode cX1_count 0 = .ok (.iconst 0, 1) := by decide +kernel
theorem dX1_count_1 : decode cX1_count 1 = .ok (.istore_n 2, 1) := by decide +kernel
theorem dX1_count_2 : decode cX1_count 2 = .ok (.iload_n 1, 1) := by decide +kernel
theorem dX1_count_3 : decode cX1_count 3 = .ok (.tableswitch 248 0 12 #[65, 70, 78, 83, 91, 99, 107, 112, 117, 144, 182, 220, 225], 65) := by decide +kernel
theorem dX1_count_68 : decode cX1_count 68 = .ok (.aload_n 0, 1) := by decide +kernel
theorem dX1_count_69 : decode cX1_count 69 = .ok (.getfield 108, 3) := by decide +kernel
theorem dX1_count_72 : decode cX1_count 72 = .ok (.ireturn, 1) := by decide +kernel
theorem dX1_count_73 : decode cX1_count 73 = .ok (.aload_n 0, 1) := by decide +kernel
theorem dX1_count_74 : decode cX1_count 74 = .ok (.getfield 25, 3) := by decide +kernel
theorem dX1_count_77 : decode cX1_count 77 = .ok (.invokevirtual 91, 3) := by decide +kernel
theorem dX1_count_80 : decode cX1_count 80 = .ok (.ireturn, 1) := by decide +kernel
theorem dX1_count_81 : decode cX1_count 81 = .ok (.aload_n 0, 1) := by decide +kernel
theorem dX1_count_82 : decode cX1_count 82 = .ok (.getfield 117, 3) := by decide +kernel
theorem dX1_count_85 : decode cX1_count 85 = .ok (.ireturn, 1) := by decide +kernel
theorem dX1_count_86 : decode cX1_count 86 = .ok (.aload_n 0, 1) := by decide +kernel
theorem dX1_count_87 : decode cX1_count 87 = .ok (.getfield 29, 3) := by decide +kernel
theorem dX1_count_90 : decode cX1_count 90 = .ok (.invokevirtual 91, 3) := by decide +kernel
theorem dX1_count_93 : decode cX1_count 93 = .ok (.ireturn, 1) := by decide +kernel
theorem dX1_count_94 : decode cX1_count 94 = .ok (.aload_n 0, 1) := by decide +kernel
theorem dX1_count_95 : decode cX1_count 95 = .ok (.getfield 32, 3) := by decide +kernel
theorem dX1_count_98 : decode cX1_count 98 = .ok (.invokevirtual 91, 3) := by decide +kernel
theorem dX1_count_101 : decode cX1_count 101 = .ok (.ireturn, 1) := by decide +kernel
theorem dX1_count_102 : decode cX1_count 102 = .ok (.aload_n 0, 1) := by decide +kernel
theorem dX1_count_103 : decode cX1_count 103 = .ok (.getfield 35, 3) := by decide +kernel
theorem dX1_count_106 : decode cX1_count 106 = .ok (.invokevirtual 91, 3) := by decide +kernel
theorem dX1_count_109 : decode cX1_count 109 = .ok (.ireturn, 1) := by decide +kernel
theorem dX1_count_110 : decode cX1_count 110 = .ok (.aload_n 0, 1) := by decide +kernel
theorem dX1_count_111 : decode cX1_count 111 = .ok (.getfield 281, 3) := by decide +kernel
theorem dX1_count_114 : decode cX1_count 114 = .ok (.ireturn, 1) := by decide +kernel
theorem dX1_count_115 : decode cX1_count 115 = .ok (.aload_n 0, 1) := by decide +kernel
theorem dX1_count_116 : decode cX1_count 116 = .ok (.getfield 242, 3) := by decide +kernel
theorem dX1_count_119 : decode cX1_count 119 = .ok (.ireturn, 1) := by decide +kernel
theorem dX1_count_120 : decode cX1_count 120 = .ok (.iconst 0, 1) := by decide +kernel
theorem dX1_count_121 : decode cX1_count 121 = .ok (.istore_n 3, 1) := by decide +kernel
theorem dX1_count_122 : decode cX1_count 122 = .ok (.iload_n 3, 1) := by decide +kernel
theorem dX1_count_123 : decode cX1_count 123 = .ok (.aload_n 0, 1) := by decide +kernel
theorem dX1_count_124 : decode cX1_count 124 = .ok (.getfield 108, 3) := by decide +kernel
theorem dX1_count_127 : decode cX1_count 127 = .ok (.if_icmp .ge 18, 3) := by decide +kernel
theorem dX1_count_130 : decode cX1_count 130 = .ok (.iload_n 2, 1) := by decide +kernel
theorem dX1_count_131 : decode cX1_count 131 = .ok (.aload_n 0, 1) := by decide +kernel
theorem dX1_count_132 : decode cX1_count 132 = .ok (.getfield 13, 3) := by decide +kernel
theorem dX1_count_135 : decode cX1_count 135 = .ok (.iload_n 3, 1) := by decide +kernel
theorem dX1_count_136 : decode cX1_count 136 = .ok (.iaload, 1) := by decide +kernel
theorem dX1_count_137 : decode cX1_count 137 = .ok (.iadd, 1) := by decide +kernel
theorem dX1_count_138 : decode cX1_count 138 = .ok (.istore_n 2, 1) := by decide +kernel
theorem dX1_count_139 : decode cX1_count 139 = .ok (.iinc 3 1, 3) := by decide +kernel
theorem dX1_count_142 : decode cX1_count 142 = .ok (.goto (-20), 3) := by decide +kernel
theorem dX1_count_145 : decode cX1_count 145 = .ok (.iload_n 2, 1) := by decide +kernel
theorem dX1_count_146 : decode cX1_count 146 = .ok (.ireturn, 1) := by decide +kernel
theorem dX1_count_147 : decode cX1_count 147 = .ok (.iconst 0, 1) := by decide +kernel
theorem dX1_count_148 : decode cX1_count 148 = .ok (.istore_n 3, 1) := by decide +kernel
theorem dX1_count_149 : decode cX1_count 149 = .ok (.iload_n 3, 1) := by decide +kernel
theorem dX1_count_150 : decode cX1_count 150 = .ok (.aload_n 0, 1) := by decide +kernel
theorem dX1_count_151 : decode cX1_count 151 = .ok (.getfield 25, 3) := by decide +kernel
theorem dX1_count_154 : decode cX1_count 154 = .ok (.invokevirtual 91, 3) := by decide +kernel
theorem dX1_count_157 : decode cX1_count 157 = .ok (.if_icmp .ge 26, 3) := by decide +kernel
theorem dX1_count_160 : decode cX1_count 160 = .ok (.iload_n 2, 1) := by decide +kernel
theorem dX1_count_161 : decode cX1_count 161 = .ok (.aload_n 0, 1) := by decide +kernel
theorem dX1_count_162 : decode cX1_count 162 = .ok (.getfield 25, 3) := by decide +kernel
theorem dX1_count_165 : decode cX1_count 165 = .ok (.iload_n 3, 1) := by decide +kernel
theorem dX1_count_166 : decode cX1_count 166 = .ok (.invokevirtual 98, 3) := by decide +kernel
theorem dX1_count_169 : decode cX1_count 169 = .ok (.checkcast 102, 3) := by decide +kernel
theorem dX1_count_172 : decode cX1_count 172 = .ok (.invokevirtual 134, 3) := by decide +kernel
theorem dX1_count_175 : decode cX1_count 175 = .ok (.iadd, 1) := by decide +kernel
theorem dX1_count_176 : decode cX1_count 176 = .ok (.istore_n 2, 1) := by decide +kernel
theorem dX1_count_177 : decode cX1_count 177 = .ok (.iinc 3 1, 3) := by decide +kernel
theorem dX1_count_180 : decode cX1_count 180 = .ok (.goto (-31), 3) := by decide +kernel
theorem dX1_count_183 : decode cX1_count 183 = .ok (.iload_n 2, 1) := by decide +kernel
theorem dX1_count_184 : decode cX1_count 184 = .ok (.ireturn, 1) := by decide +kernel
theorem dX1_count_185 : decode cX1_count 185 = .ok (.iconst 0, 1) := by decide +kernel
theorem dX1_count_186 : decode cX1_count 186 = .ok (.istore_n 3, 1) := by decide +kernel
theorem dX1_count_187 : decode cX1_count 187 = .ok (.iload_n 3, 1) := by decide +kernel
theorem dX1_count_188 : decode cX1_count 188 = .ok (.aload_n 0, 1) := by decide +kernel
theorem dX1_count_189 : decode cX1_count 189 = .ok (.getfield 35, 3) := by decide +kernel
theorem dX1_count_192 : decode cX1_count 192 = .ok (.invokevirtual 91, 3) := by decide +kernel
theorem dX1_count_195 : decode cX1_count 195 = .ok (.if_icmp .ge 26, 3) := by decide +kernel
theorem dX1_count_198 : decode cX1_count 198 = .ok (.iload_n 2, 1) := by decide +kernel
theorem dX1_count_199 : decode cX1_count 199 = .ok (.aload_n 0, 1) := by decide +kernel
theorem dX1_count_200 : decode cX1_count 200 = .ok (.getfield 35, 3) := by decide +kernel
theorem dX1_count_203 : decode cX1_count 203 = .ok (.iload_n 3, 1) := by decide +kernel
theorem dX1_count_204 : decode cX1_count 204 = .ok (.invokevirtual 98, 3) := by decide +kernel
theorem dX1_count_207 : decode cX1_count 207 = .ok (.checkcast 273, 3) := by decide +kernel
theorem dX1_count_210 : decode cX1_count 210 = .ok (.invokevirtual 300, 3) := by decide +kernel
theorem dX1_count_213 : decode cX1_count 213 = .ok (.iadd, 1) := by decide +kernel
theorem dX1_count_214 : decode cX1_count 214 = .ok (.istore_n 2, 1) := by decide +kernel
theorem dX1_count_215 : decode cX1_count 215 = .ok (.iinc 3 1, 3) := by decide +kernel
theorem dX1_count_218 : decode cX1_count 218 = .ok (.goto (-31), 3) := by decide +kernel
theorem dX1_count_221 : decode cX1_count 221 = .ok (.iload_n 2, 1) := by decide +kernel
theorem dX1_count_222 : decode cX1_count 222 = .ok (.ireturn, 1) := by decide +kernel
theorem dX1_count_223 : decode cX1_count 223 = .ok (.aload_n 0, 1) := by decide +kernel
theorem dX1_count_224 : decode cX1_count 224 = .ok (.getfield 144, 3) := by decide +kernel
theorem dX1_count_227 : decode cX1_count 227 = .ok (.ireturn, 1) := by decide +kernel
theorem dX1_count_228 : decode cX1_count 228 = .ok (.aload_n 0, 1) := by decide +kernel
theorem dX1_count_229 : decode cX1_count 229 = .ok (.invokevirtual 159, 3) := by decide +kernel
theorem dX1_count_232 : decode cX1_count 232 = .ok (.ifnonnull 7, 3) := by decide +kernel
theorem dX1_count_235 : decode cX1_count 235 = .ok (.iconst (-1), 1) := by decide +kernel
theorem dX1_count_236 : decode cX1_count 236 = .ok (.goto 14, 3) := by decide +kernel
theorem dX1_count_239 : decode cX1_count 239 = .ok (.aload_n 0, 1) := by decide +kernel
theorem dX1_count_240 : decode cX1_count 240 = .ok (.getfield 32, 3) := by decide +kernel
theorem dX1_count_243 : decode cX1_count 243 = .ok (.aload_n 0, 1) := by decide +kernel
theorem dX1_count_244 : decode cX1_count 244 = .ok (.invokevirtual 159, 3) := by decide +kernel
theorem dX1_count_247 : decode cX1_count 247 = .ok (.invokevirtual 301, 3) := by decide +kernel
theorem dX1_count_250 : decode cX1_count 250 = .ok (.ireturn, 1) := by decide +kernel
theorem dX1_count_251 : decode cX1_count 251 = .ok (.iconst (-1), 1) := by decide +kernel
theorem dX1_count_252 : decode cX1_count 252 = .ok (.ireturn, 1) := by decide +kernel
theorem dX1_part_0 : decode cX1_part 0 = .ok (.iload_n 1, 1) := by decide +kernel
theorem dX1_part_1 : decode cX1_part 1 = .ok (.iconst 0, 1) := by decide +kernel
theorem dX1_part_2 : decode cX1_part 2 = .ok (.aload_n 0, 1) := by decide +kernel
theorem dX1_part_3 : decode cX1_part 3 = .ok (.getfield 25, 3) := by decide +kernel
theorem dX1_part_6 : decode cX1_part 6 = .ok (.invokevirtual 91, 3) := by decide +kernel
theorem dX1_part_9 : decode cX1_part 9 = .ok (.iconst 1, 1) := by decide +kernel
theorem dX1_part_10 : decode cX1_part 10 = .ok (.isub, 1) := by decide +kernel
theorem dX1_part_11 : decode cX1_part 11 = .ok (.invokestatic 94, 3) := by decide +kernel
theorem dX1_part_14 : decode cX1_part 14 = .ok (.ifCond .eq 17, 3) := by decide +kernel
theorem dX1_part_17 : decode cX1_part 17 = .ok (.iload_n 2, 1) := by decide +kernel
theorem dX1_part_18 : decode cX1_part 18 = .ok (.iconst 0, 1) := by decide +kernel
theorem dX1_part_19 : decode cX1_part 19 = .ok (.aload_n 0, 1) := by decide +kernel
theorem dX1_part_20 : decode cX1_part 20 = .ok (.getfield 108, 3) := by decide +kernel
theorem dX1_part_23 : decode cX1_part 23 = .ok (.iconst 1, 1) := by decide +kernel
theorem dX1_part_24 : decode cX1_part 24 = .ok (.isub, 1) := by decide +kernel
theorem dX1_part_25 : decode cX1_part 25 = .ok (.invokestatic 94, 3) := by decide +kernel
theorem dX1_part_28 : decode cX1_part 28 = .ok (.ifCond .ne 11, 3) := by decide +kernel
theorem dX1_part_31 : decode cX1_part 31 = .ok (.new 239, 3) := by decide +kernel
theorem dX1_part_34 : decode cX1_part 34 = .ok (.dup, 1) := by decide +kernel
theorem dX1_part_35 : decode cX1_part 35 = .ok (.invokespecial 241, 3) := by decide +kernel
theorem dX1_part_38 : decode cX1_part 38 = .ok (.athrow, 1) := by decide +kernel
theorem dX1_part_39 : decode cX1_part 39 = .ok (.aload_n 0, 1) := by decide +kernel
theorem dX1_part_40 : decode cX1_part 40 = .ok (.getfield 25, 3) := by decide +kernel
theorem dX1_part_43 : decode cX1_part 43 = .ok (.iload_n 1, 1) := by decide +kernel
theorem dX1_part_44 : decode cX1_part 44 = .ok (.invokevirtual 98, 3) := by decide +kernel
theorem dX1_part_47 : decode cX1_part 47 = .ok (.checkcast 102, 3) := by decide +kernel
theorem dX1_part_50 : decode cX1_part 50 = .ok (.getfield 131, 3) := by decide +kernel
theorem dX1_part_53 : decode cX1_part 53 = .ok (.iload_n 2, 1) := by decide +kernel
theorem dX1_part_54 : decode cX1_part 54 = .ok (.iaload, 1) := by decide +kernel
theorem dX1_part_55 : decode cX1_part 55 = .ok (.ireturn, 1) := by decide +kernel
theorem dX3_init_0 : decode cX3_init 0 = .ok (.aload_n 0, 1) := by decide +kernel
theorem dX3_init_1 : decode cX3_init 1 = .ok (.invokespecial 3, 3) := by decide +kernel
theorem dX3_init_4 : decode cX3_init 4 = .ok (.aload_n 0, 1) := by decide +kernel
theorem dX3_init_5 : decode cX3_init 5 = .ok (.bipush 20, 2) := by decide +kernel
theorem dX3_init_7 : decode cX3_init 7 = .ok (.newarray .int, 2) := by decide +kernel
theorem dX3_init_9 : decode cX3_init 9 = .ok (.putfield 9, 3) := by decide +kernel
theorem dX3_init_12 : decode cX3_init 12 = .ok (.return_, 1) := by decide +kernel
theorem dX3_all_0 : decode cX3_all 0 = .ok (.iconst 0, 1) := by decide +kernel
theorem dX3_all_1 : decode cX3_all 1 = .ok (.istore_n 1, 1) := by decide +kernel
theorem dX3_all_2 : decode cX3_all 2 = .ok (.aload_n 0, 1) := by decide +kernel
theorem dX3_all_3 : decode cX3_all 3 = .ok (.getfield 9, 3) := by decide +kernel
theorem dX3_all_6 : decode cX3_all 6 = .ok (.astore_n 2, 1) := by decide +kernel
theorem dX3_all_7 : decode cX3_all 7 = .ok (.aload_n 2, 1) := by decide +kernel
theorem dX3_all_8 : decode cX3_all 8 = .ok (.arraylength, 1) := by decide +kernel
theorem dX3_all_9 : decode cX3_all 9 = .ok (.istore_n 3, 1) := by decide +kernel
theorem dX3_all_10 : decode cX3_all 10 = .ok (.iconst 0, 1) := by decide +kernel
theorem dX3_all_11 : decode cX3_all 11 = .ok (.istore 4, 2) := by decide +kernel
theorem dX3_all_13 : decode cX3_all 13 = .ok (.iload 4, 2) := by decide +kernel
theorem dX3_all_15 : decode cX3_all 15 = .ok (.iload_n 3, 1) := by decide +kernel
theorem dX3_all_16 : decode cX3_all 16 = .ok (.if_icmp .ge 20, 3) := by decide +kernel
theorem dX3_all_19 : decode cX3_all 19 = .ok (.aload_n 2, 1) := by decide +kernel
theorem dX3_all_20 : decode cX3_all 20 = .ok (.iload 4, 2) := by decide +kernel
theorem dX3_all_22 : decode cX3_all 22 = .ok (.iaload, 1) := by decide +kernel
theorem dX3_all_23 : decode cX3_all 23 = .ok (.istore 5, 2) := by decide +kernel
theorem dX3_all_25 : decode cX3_all 25 = .ok (.iload_n 1, 1) := by decide +kernel
theorem dX3_all_26 : decode cX3_all 26 = .ok (.iload 5, 2) := by decide +kernel
theorem dX3_all_28 : decode cX3_all 28 = .ok (.iadd, 1) := by decide +kernel
theorem dX3_all_29 : decode cX3_all 29 = .ok (.istore_n 1, 1) := by decide +kernel
theorem dX3_all_30 : decode cX3_all 30 = .ok (.iinc 4 1, 3) := by decide +kernel
theorem dX3_all_33 : decode cX3_all 33 = .ok (.goto (-20), 3) := by decide +kernel
theorem dX3_all_36 : decode cX3_all 36 = .ok (.iload_n 1, 1) := by decide +kernel
theorem dX3_all_37 : decode cX3_all 37 = .ok (.ireturn, 1) := by decide +kernel
theorem dX3_takesAll_0 : decode cX3_takesAll 0 = .ok (.iconst 0, 1) := by decide +kernel
theorem dX3_takesAll_1 : decode cX3_takesAll 1 = .ok (.istore_n 2, 1) := by decide +kernel
theorem dX3_takesAll_2 : decode cX3_takesAll 2 = .ok (.iload_n 2, 1) := by decide +kernel
theorem dX3_takesAll_3 : decode cX3_takesAll 3 = .ok (.bipush 20, 2) := by decide +kernel
theorem dX3_takesAll_5 : decode cX3_takesAll 5 = .ok (.if_icmp .ge 31, 3) := by decide +kernel
theorem dX3_takesAll_8 : decode cX3_takesAll 8 = .ok (.aload_n 0, 1) := by decide +kernel
theorem dX3_takesAll_9 : decode cX3_takesAll 9 = .ok (.getfield 9, 3) := by decide +kernel
theorem dX3_takesAll_12 : decode cX3_takesAll 12 = .ok (.iload_n 2, 1) := by decide +kernel
theorem dX3_takesAll_13 : decode cX3_takesAll 13 = .ok (.dup2, 1) := by decide +kernel
theorem dX3_takesAll_14 : decode cX3_takesAll 14 = .ok (.iaload, 1) := by decide +kernel
theorem dX3_takesAll_15 : decode cX3_takesAll 15 = .ok (.aload_n 1, 1) := by decide +kernel
theorem dX3_takesAll_16 : decode cX3_takesAll 16 = .ok (.getfield 9, 3) := by decide +kernel
theorem dX3_takesAll_19 : decode cX3_takesAll 19 = .ok (.iload_n 2, 1) := by decide +kernel
theorem dX3_takesAll_20 : decode cX3_takesAll 20 = .ok (.iaload, 1) := by decide +kernel
theorem dX3_takesAll_21 : decode cX3_takesAll 21 = .ok (.iadd, 1) := by decide +kernel
theorem dX3_takesAll_22 : decode cX3_takesAll 22 = .ok (.iastore, 1) := by decide +kernel
theorem dX3_takesAll_23 : decode cX3_takesAll 23 = .ok (.aload_n 1, 1) := by decide +kernel
theorem dX3_takesAll_24 : decode cX3_takesAll 24 = .ok (.getfield 9, 3) := by decide +kernel
theorem dX3_takesAll_27 : decode cX3_takesAll 27 = .ok (.iload_n 2, 1) := by decide +kernel
theorem dX3_takesAll_28 : decode cX3_takesAll 28 = .ok (.iconst 0, 1) := by decide +kernel
theorem dX3_takesAll_29 : decode cX3_takesAll 29 = .ok (.iastore, 1) := by decide +kernel
theorem dX3_takesAll_30 : decode cX3_takesAll 30 = .ok (.iinc 2 1, 3) := by decide +kernel
theorem dX3_takesAll_33 : decode cX3_takesAll 33 = .ok (.goto (-31), 3) := by decide +kernel
theorem dX3_takesAll_36 : decode cX3_takesAll 36 = .ok (.return_, 1) := by decide +kernel
theorem dX3_gives_0 : decode cX3_gives 0 = .ok (.aload_n 0, 1) := by decide +kernel
theorem dX3_gives_1 : decode cX3_gives 1 = .ok (.invokevirtual 15, 3) := by decide +kernel
theorem dX3_gives_4 : decode cX3_gives 4 = .ok (.istore_n 3, 1) := by decide +kernel
theorem dX3_gives_5 : decode cX3_gives 5 = .ok (.bipush 20, 2) := by decide +kernel
theorem dX3_gives_7 : decode cX3_gives 7 = .ok (.newarray .int, 2) := by decide +kernel
theorem dX3_gives_9 : decode cX3_gives 9 = .ok (.astore 4, 2) := by decide +kernel
theorem dX3_gives_11 : decode cX3_gives 11 = .ok (.bipush 20, 2) := by decide +kernel
theorem dX3_gives_13 : decode cX3_gives 13 = .ok (.newarray .int, 2) := by decide +kernel
theorem dX3_gives_15 : decode cX3_gives 15 = .ok (.astore 5, 2) := by decide +kernel
theorem dX3_gives_17 : decode cX3_gives 17 = .ok (.iload_n 1, 1) := by decide +kernel
theorem dX3_gives_18 : decode cX3_gives 18 = .ok (.istore 6, 2) := by decide +kernel
theorem dX3_gives_20 : decode cX3_gives 20 = .ok (.iconst 0, 1) := by decide +kernel
theorem dX3_gives_21 : decode cX3_gives 21 = .ok (.istore 7, 2) := by decide +kernel
theorem dX3_gives_23 : decode cX3_gives 23 = .ok (.iload 7, 2) := by decide +kernel
theorem dX3_gives_25 : decode cX3_gives 25 = .ok (.bipush 20, 2) := by decide +kernel
theorem dX3_gives_27 : decode cX3_gives 27 = .ok (.if_icmp .ge 54, 3) := by decide +kernel
theorem dX3_gives_30 : decode cX3_gives 30 = .ok (.aload_n 0, 1) := by decide +kernel
theorem dX3_gives_31 : decode cX3_gives 31 = .ok (.getfield 9, 3) := by decide +kernel
theorem dX3_gives_34 : decode cX3_gives 34 = .ok (.iload 7, 2) := by decide +kernel
theorem dX3_gives_36 : decode cX3_gives 36 = .ok (.iaload, 1) := by decide +kernel
theorem dX3_gives_37 : decode cX3_gives 37 = .ok (.i2l, 1) := by decide +kernel
theorem dX3_gives_38 : decode cX3_gives 38 = .ok (.iload_n 1, 1) := by decide +kernel
theorem dX3_gives_39 : decode cX3_gives 39 = .ok (.i2l, 1) := by decide +kernel
theorem dX3_gives_40 : decode cX3_gives 40 = .ok (.lmul, 1) := by decide +kernel
theorem dX3_gives_41 : decode cX3_gives 41 = .ok (.lstore 8, 2) := by decide +kernel
theorem dX3_gives_43 : decode cX3_gives 43 = .ok (.aload 5, 2) := by decide +kernel
theorem dX3_gives_45 : decode cX3_gives 45 = .ok (.iload 7, 2) := by decide +kernel
theorem dX3_gives_47 : decode cX3_gives 47 = .ok (.lload 8, 2) := by decide +kernel
theorem dX3_gives_49 : decode cX3_gives 49 = .ok (.iload_n 3, 1) := by decide +kernel
theorem dX3_gives_50 : decode cX3_gives 50 = .ok (.i2l, 1) := by decide +kernel
theorem dX3_gives_51 : decode cX3_gives 51 = .ok (.ldiv, 1) := by decide +kernel
theorem dX3_gives_52 : decode cX3_gives 52 = .ok (.l2i, 1) := by decide +kernel
theorem dX3_gives_53 : decode cX3_gives 53 = .ok (.iastore, 1) := by decide +kernel
theorem dX3_gives_54 : decode cX3_gives 54 = .ok (.aload 4, 2) := by decide +kernel
theorem dX3_gives_56 : decode cX3_gives 56 = .ok (.iload 7, 2) := by decide +kernel
theorem dX3_gives_58 : decode cX3_gives 58 = .ok (.lload 8, 2) := by decide +kernel
theorem dX3_gives_60 : decode cX3_gives 60 = .ok (.iload_n 3, 1) := by decide +kernel
theorem dX3_gives_61 : decode cX3_gives 61 = .ok (.i2l, 1) := by decide +kernel
theorem dX3_gives_62 : decode cX3_gives 62 = .ok (.lrem, 1) := by decide +kernel
theorem dX3_gives_63 : decode cX3_gives 63 = .ok (.l2i, 1) := by decide +kernel
theorem dX3_gives_64 : decode cX3_gives 64 = .ok (.iastore, 1) := by decide +kernel
theorem dX3_gives_65 : decode cX3_gives 65 = .ok (.iload 6, 2) := by decide +kernel
theorem dX3_gives_67 : decode cX3_gives 67 = .ok (.aload 5, 2) := by decide +kernel
theorem dX3_gives_69 : decode cX3_gives 69 = .ok (.iload 7, 2) := by decide +kernel
theorem dX3_gives_71 : decode cX3_gives 71 = .ok (.iaload, 1) := by decide +kernel
theorem dX3_gives_72 : decode cX3_gives 72 = .ok (.isub, 1) := by decide +kernel
theorem dX3_gives_73 : decode cX3_gives 73 = .ok (.istore 6, 2) := by decide +kernel
theorem dX3_gives_75 : decode cX3_gives 75 = .ok (.iinc 7 1, 3) := by decide +kernel
theorem dX3_gives_78 : decode cX3_gives 78 = .ok (.goto (-55), 3) := by decide +kernel
theorem dX3_gives_81 : decode cX3_gives 81 = .ok (.iload 6, 2) := by decide +kernel
theorem dX3_gives_83 : decode cX3_gives 83 = .ok (.ifCond .le 60, 3) := by decide +kernel
theorem dX3_gives_86 : decode cX3_gives 86 = .ok (.iconst 0, 1) := by decide +kernel
theorem dX3_gives_87 : decode cX3_gives 87 = .ok (.istore 7, 2) := by decide +kernel
theorem dX3_gives_89 : decode cX3_gives 89 = .ok (.iconst 1, 1) := by decide +kernel
theorem dX3_gives_90 : decode cX3_gives 90 = .ok (.istore 8, 2) := by decide +kernel
theorem dX3_gives_92 : decode cX3_gives 92 = .ok (.iload 8, 2) := by decide +kernel
theorem dX3_gives_94 : decode cX3_gives 94 = .ok (.bipush 20, 2) := by decide +kernel
theorem dX3_gives_96 : decode cX3_gives 96 = .ok (.if_icmp .ge 26, 3) := by decide +kernel
theorem dX3_gives_99 : decode cX3_gives 99 = .ok (.aload 4, 2) := by decide +kernel
theorem dX3_gives_101 : decode cX3_gives 101 = .ok (.iload 8, 2) := by decide +kernel
theorem dX3_gives_103 : decode cX3_gives 103 = .ok (.iaload, 1) := by decide +kernel
theorem dX3_gives_104 : decode cX3_gives 104 = .ok (.aload 4, 2) := by decide +kernel
theorem dX3_gives_106 : decode cX3_gives 106 = .ok (.iload 7, 2) := by decide +kernel
theorem dX3_gives_108 : decode cX3_gives 108 = .ok (.iaload, 1) := by decide +kernel
theorem dX3_gives_109 : decode cX3_gives 109 = .ok (.if_icmp .le 7, 3) := by decide +kernel
theorem dX3_gives_112 : decode cX3_gives 112 = .ok (.iload 8, 2) := by decide +kernel
theorem dX3_gives_114 : decode cX3_gives 114 = .ok (.istore 7, 2) := by decide +kernel
theorem dX3_gives_116 : decode cX3_gives 116 = .ok (.iinc 8 1, 3) := by decide +kernel
theorem dX3_gives_119 : decode cX3_gives 119 = .ok (.goto (-27), 3) := by decide +kernel
theorem dX3_gives_122 : decode cX3_gives 122 = .ok (.aload 5, 2) := by decide +kernel
theorem dX3_gives_124 : decode cX3_gives 124 = .ok (.iload 7, 2) := by decide +kernel
theorem dX3_gives_126 : decode cX3_gives 126 = .ok (.dup2, 1) := by decide +kernel
theorem dX3_gives_127 : decode cX3_gives 127 = .ok (.iaload, 1) := by decide +kernel
theorem dX3_gives_128 : decode cX3_gives 128 = .ok (.iconst 1, 1) := by decide +kernel
theorem dX3_gives_129 : decode cX3_gives 129 = .ok (.iadd, 1) := by decide +kernel
theorem dX3_gives_130 : decode cX3_gives 130 = .ok (.iastore, 1) := by decide +kernel
theorem dX3_gives_131 : decode cX3_gives 131 = .ok (.aload 4, 2) := by decide +kernel
theorem dX3_gives_133 : decode cX3_gives 133 = .ok (.iload 7, 2) := by decide +kernel
theorem dX3_gives_135 : decode cX3_gives 135 = .ok (.iconst (-1), 1) := by decide +kernel
theorem dX3_gives_136 : decode cX3_gives 136 = .ok (.iastore, 1) := by decide +kernel
theorem dX3_gives_137 : decode cX3_gives 137 = .ok (.iinc 6 (-1), 3) := by decide +kernel
theorem dX3_gives_140 : decode cX3_gives 140 = .ok (.goto (-59), 3) := by decide +kernel
theorem dX3_gives_143 : decode cX3_gives 143 = .ok (.iconst 0, 1) := by decide +kernel
theorem dX3_gives_144 : decode cX3_gives 144 = .ok (.istore 7, 2) := by decide +kernel
theorem dX3_gives_146 : decode cX3_gives 146 = .ok (.iload 7, 2) := by decide +kernel
theorem dX3_gives_148 : decode cX3_gives 148 = .ok (.bipush 20, 2) := by decide +kernel
theorem dX3_gives_150 : decode cX3_gives 150 = .ok (.if_icmp .ge 39, 3) := by decide +kernel
theorem dX3_gives_153 : decode cX3_gives 153 = .ok (.aload_n 0, 1) := by decide +kernel
theorem dX3_gives_154 : decode cX3_gives 154 = .ok (.getfield 9, 3) := by decide +kernel
theorem dX3_gives_157 : decode cX3_gives 157 = .ok (.iload 7, 2) := by decide +kernel
theorem dX3_gives_159 : decode cX3_gives 159 = .ok (.dup2, 1) := by decide +kernel
theorem dX3_gives_160 : decode cX3_gives 160 = .ok (.iaload, 1) := by decide +kernel
theorem dX3_gives_161 : decode cX3_gives 161 = .ok (.aload 5, 2) := by decide +kernel
theorem dX3_gives_163 : decode cX3_gives 163 = .ok (.iload 7, 2) := by decide +kernel
theorem dX3_gives_165 : decode cX3_gives 165 = .ok (.iaload, 1) := by decide +kernel
theorem dX3_gives_166 : decode cX3_gives 166 = .ok (.isub, 1) := by decide +kernel
theorem dX3_gives_167 : decode cX3_gives 167 = .ok (.iastore, 1) := by decide +kernel
theorem dX3_gives_168 : decode cX3_gives 168 = .ok (.aload_n 2, 1) := by decide +kernel
theorem dX3_gives_169 : decode cX3_gives 169 = .ok (.getfield 9, 3) := by decide +kernel
theorem dX3_gives_172 : decode cX3_gives 172 = .ok (.iload 7, 2) := by decide +kernel
theorem dX3_gives_174 : decode cX3_gives 174 = .ok (.dup2, 1) := by decide +kernel
theorem dX3_gives_175 : decode cX3_gives 175 = .ok (.iaload, 1) := by decide +kernel
theorem dX3_gives_176 : decode cX3_gives 176 = .ok (.aload 5, 2) := by decide +kernel
theorem dX3_gives_178 : decode cX3_gives 178 = .ok (.iload 7, 2) := by decide +kernel
theorem dX3_gives_180 : decode cX3_gives 180 = .ok (.iaload, 1) := by decide +kernel
theorem dX3_gives_181 : decode cX3_gives 181 = .ok (.iadd, 1) := by decide +kernel
theorem dX3_gives_182 : decode cX3_gives 182 = .ok (.iastore, 1) := by decide +kernel
theorem dX3_gives_183 : decode cX3_gives 183 = .ok (.iinc 7 1, 3) := by decide +kernel
theorem dX3_gives_186 : decode cX3_gives 186 = .ok (.goto (-40), 3) := by decide +kernel
theorem dX3_gives_189 : decode cX3_gives 189 = .ok (.return_, 1) := by decide +kernel
theorem dX4_isThere_0 : decode cX4_isThere 0 = .ok (.aload_n 0, 1) := by decide +kernel
theorem dX4_isThere_1 : decode cX4_isThere 1 = .ok (.getfield 31, 3) := by decide +kernel
theorem dX4_isThere_4 : decode cX4_isThere 4 = .ok (.ifCond .eq 11, 3) := by decide +kernel
theorem dX4_isThere_7 : decode cX4_isThere 7 = .ok (.aload_n 0, 1) := by decide +kernel
theorem dX4_isThere_8 : decode cX4_isThere 8 = .ok (.getfield 31, 3) := by decide +kernel
theorem dX4_isThere_11 : decode cX4_isThere 11 = .ok (.iconst 1, 1) := by decide +kernel
theorem dX4_isThere_12 : decode cX4_isThere 12 = .ok (.if_icmp .ne 7, 3) := by decide +kernel
theorem dX4_isThere_15 : decode cX4_isThere 15 = .ok (.iconst 1, 1) := by decide +kernel
theorem dX4_isThere_16 : decode cX4_isThere 16 = .ok (.goto 4, 3) := by decide +kernel
theorem dX4_isThere_19 : decode cX4_isThere 19 = .ok (.iconst 0, 1) := by decide +kernel
theorem dX4_isThere_20 : decode cX4_isThere 20 = .ok (.ireturn, 1) := by decide +kernel
theorem dX4_init_0 : decode cX4_init 0 = .ok (.aload_n 0, 1) := by decide +kernel
theorem dX4_init_1 : decode cX4_init 1 = .ok (.invokespecial 3, 3) := by decide +kernel
theorem dX4_init_4 : decode cX4_init 4 = .ok (.aload_n 0, 1) := by decide +kernel
theorem dX4_init_5 : decode cX4_init 5 = .ok (.sipush 600, 3) := by decide +kernel
theorem dX4_init_8 : decode cX4_init 8 = .ok (.newarray .byte, 2) := by decide +kernel
theorem dX4_init_10 : decode cX4_init 10 = .ok (.putfield 9, 3) := by decide +kernel
theorem dX4_init_13 : decode cX4_init 13 = .ok (.aload_n 0, 1) := by decide +kernel
theorem dX4_init_14 : decode cX4_init 14 = .ok (.iconst (-1), 1) := by decide +kernel
theorem dX4_init_15 : decode cX4_init 15 = .ok (.putfield 15, 3) := by decide +kernel
theorem dX4_init_18 : decode cX4_init 18 = .ok (.aload_n 0, 1) := by decide +kernel
theorem dX4_init_19 : decode cX4_init 19 = .ok (.iload_n 1, 1) := by decide +kernel
theorem dX4_init_20 : decode cX4_init 20 = .ok (.putfield 19, 3) := by decide +kernel
theorem dX4_init_23 : decode cX4_init 23 = .ok (.aload_n 0, 1) := by decide +kernel
theorem dX4_init_24 : decode cX4_init 24 = .ok (.iload_n 2, 1) := by decide +kernel
theorem dX4_init_25 : decode cX4_init 25 = .ok (.putfield 22, 3) := by decide +kernel
theorem dX4_init_28 : decode cX4_init 28 = .ok (.aload_n 0, 1) := by decide +kernel
theorem dX4_init_29 : decode cX4_init 29 = .ok (.iload_n 3, 1) := by decide +kernel
theorem dX4_init_30 : decode cX4_init 30 = .ok (.putfield 25, 3) := by decide +kernel
theorem dX4_init_33 : decode cX4_init 33 = .ok (.aload_n 0, 1) := by decide +kernel
theorem dX4_init_34 : decode cX4_init 34 = .ok (.iload 4, 2) := by decide +kernel
theorem dX4_init_36 : decode cX4_init 36 = .ok (.putfield 28, 3) := by decide +kernel
theorem dX4_init_39 : decode cX4_init 39 = .ok (.return_, 1) := by decide +kernel
theorem dX4_isCold_0 : decode cX4_isCold 0 = .ok (.aload_n 0, 1) := by decide +kernel
theorem dX4_isCold_1 : decode cX4_isCold 1 = .ok (.invokevirtual 34, 3) := by decide +kernel
theorem dX4_isCold_4 : decode cX4_isCold 4 = .ok (.ifCond .eq 16, 3) := by decide +kernel
theorem dX4_isCold_7 : decode cX4_isCold 7 = .ok (.aload_n 0, 1) := by decide +kernel
theorem dX4_isCold_8 : decode cX4_isCold 8 = .ok (.getfield 22, 3) := by decide +kernel
theorem dX4_isCold_11 : decode cX4_isCold 11 = .ok (.bipush 8, 2) := by decide +kernel
theorem dX4_isCold_13 : decode cX4_isCold 13 = .ok (.if_icmp .lt 7, 3) := by decide +kernel
theorem dX4_isCold_16 : decode cX4_isCold 16 = .ok (.iconst 1, 1) := by decide +kernel
theorem dX4_isCold_17 : decode cX4_isCold 17 = .ok (.goto 4, 3) := by decide +kernel
theorem dX4_isCold_20 : decode cX4_isCold 20 = .ok (.iconst 0, 1) := by decide +kernel
theorem dX4_isCold_21 : decode cX4_isCold 21 = .ok (.ireturn, 1) := by decide +kernel
theorem dX4_goes_0 : decode cX4_goes 0 = .ok (.aload_n 0, 1) := by decide +kernel
theorem dX4_goes_1 : decode cX4_goes 1 = .ok (.iload_n 1, 1) := by decide +kernel
theorem dX4_goes_2 : decode cX4_goes 2 = .ok (.putfield 31, 3) := by decide +kernel
theorem dX4_goes_5 : decode cX4_goes 5 = .ok (.aload_n 0, 1) := by decide +kernel
theorem dX4_goes_6 : decode cX4_goes 6 = .ok (.iconst (-1), 1) := by decide +kernel
theorem dX4_goes_7 : decode cX4_goes 7 = .ok (.putfield 22, 3) := by decide +kernel
theorem dX4_goes_10 : decode cX4_goes 10 = .ok (.return_, 1) := by decide +kernel
theorem dX4_takesAll_0 : decode cX4_takesAll 0 = .ok (.aload_n 0, 1) := by decide +kernel
theorem dX4_takesAll_1 : decode cX4_takesAll 1 = .ok (.aload_n 1, 1) := by decide +kernel
theorem dX4_takesAll_2 : decode cX4_takesAll 2 = .ok (.invokespecial 38, 3) := by decide +kernel
theorem dX4_takesAll_5 : decode cX4_takesAll 5 = .ok (.aload_n 0, 1) := by decide +kernel
theorem dX4_takesAll_6 : decode cX4_takesAll 6 = .ok (.iconst 0, 1) := by decide +kernel
theorem dX4_takesAll_7 : decode cX4_takesAll 7 = .ok (.putfield 31, 3) := by decide +kernel
theorem dX4_takesAll_10 : decode cX4_takesAll 10 = .ok (.return_, 1) := by decide +kernel
theorem dX5_init_0 : decode cX5_init 0 = .ok (.aload_n 0, 1) := by decide +kernel
theorem dX5_init_1 : decode cX5_init 1 = .ok (.invokespecial 1, 3) := by decide +kernel
theorem dX5_init_4 : decode cX5_init 4 = .ok (.aload_n 0, 1) := by decide +kernel
theorem dX5_init_5 : decode cX5_init 5 = .ok (.aload_n 1, 1) := by decide +kernel
theorem dX5_init_6 : decode cX5_init 6 = .ok (.putfield 7, 3) := by decide +kernel
theorem dX5_init_9 : decode cX5_init 9 = .ok (.aload_n 0, 1) := by decide +kernel
theorem dX5_init_10 : decode cX5_init 10 = .ok (.iload_n 2, 1) := by decide +kernel
theorem dX5_init_11 : decode cX5_init 11 = .ok (.putfield 13, 3) := by decide +kernel
theorem dX5_init_14 : decode cX5_init 14 = .ok (.aload_n 0, 1) := by decide +kernel
theorem dX5_init_15 : decode cX5_init 15 = .ok (.iload_n 3, 1) := by decide +kernel
theorem dX5_init_16 : decode cX5_init 16 = .ok (.putfield 17, 3) := by decide +kernel
theorem dX5_init_19 : decode cX5_init 19 = .ok (.return_, 1) := by decide +kernel
theorem dX6_init_0 : decode cX6_init 0 = .ok (.aload_n 0, 1) := by decide +kernel
theorem dX6_init_1 : decode cX6_init 1 = .ok (.invokespecial 1, 3) := by decide +kernel
theorem dX6_init_4 : decode cX6_init 4 = .ok (.aload_n 0, 1) := by decide +kernel
theorem dX6_init_5 : decode cX6_init 5 = .ok (.iload_n 1, 1) := by decide +kernel
theorem dX6_init_6 : decode cX6_init 6 = .ok (.putfield 7, 3) := by decide +kernel
theorem dX6_init_9 : decode cX6_init 9 = .ok (.aload_n 0, 1) := by decide +kernel
theorem dX6_init_10 : decode cX6_init 10 = .ok (.aload_n 2, 1) := by decide +kernel
theorem dX6_init_11 : decode cX6_init 11 = .ok (.putfield 13, 3) := by decide +kernel
theorem dX6_init_14 : decode cX6_init 14 = .ok (.return_, 1) := by decide +kernel
theorem dX9_holds_0 : decode cX9_holds 0 = .ok (.aload_n 1, 1) := by decide +kernel
theorem dX9_holds_1 : decode cX9_holds 1 = .ok (.aload_n 2, 1) := by decide +kernel
theorem dX9_holds_2 : decode cX9_holds 2 = .ok (.aload_n 0, 1) := by decide +kernel
theorem dX9_holds_3 : decode cX9_holds 3 = .ok (.getfield 7, 3) := by decide +kernel
theorem dX9_holds_6 : decode cX9_holds 6 = .ok (.invokevirtual 19, 3) := by decide +kernel
theorem dX9_holds_9 : decode cX9_holds 9 = .ok (.istore_n 3, 1) := by decide +kernel
theorem dX9_holds_10 : decode cX9_holds 10 = .ok (.aload_n 0, 1) := by decide +kernel
theorem dX9_holds_11 : decode cX9_holds 11 = .ok (.getfield 13, 3) := by decide +kernel
theorem dX9_holds_14 : decode cX9_holds 14 = .ok (.bipush 60, 2) := by decide +kernel
theorem dX9_holds_16 : decode cX9_holds 16 = .ok (.if_icmp .ne 19, 3) := by decide +kernel
theorem dX9_holds_19 : decode cX9_holds 19 = .ok (.iload_n 3, 1) := by decide +kernel
theorem dX9_holds_20 : decode cX9_holds 20 = .ok (.aload_n 0, 1) := by decide +kernel
theorem dX9_holds_21 : decode cX9_holds 21 = .ok (.getfield 16, 3) := by decide +kernel
theorem dX9_holds_24 : decode cX9_holds 24 = .ok (.if_icmp .ge 7, 3) := by decide +kernel
theorem dX9_holds_27 : decode cX9_holds 27 = .ok (.iconst 1, 1) := by decide +kernel
theorem dX9_holds_28 : decode cX9_holds 28 = .ok (.goto 45, 3) := by decide +kernel
theorem dX9_holds_31 : decode cX9_holds 31 = .ok (.iconst 0, 1) := by decide +kernel
theorem dX9_holds_32 : decode cX9_holds 32 = .ok (.goto 41, 3) := by decide +kernel
theorem dX9_holds_35 : decode cX9_holds 35 = .ok (.aload_n 0, 1) := by decide +kernel
theorem dX9_holds_36 : decode cX9_holds 36 = .ok (.getfield 13, 3) := by decide +kernel
theorem dX9_holds_39 : decode cX9_holds 39 = .ok (.bipush 61, 2) := by decide +kernel
theorem dX9_holds_41 : decode cX9_holds 41 = .ok (.if_icmp .ne 19, 3) := by decide +kernel
theorem dX9_holds_44 : decode cX9_holds 44 = .ok (.iload_n 3, 1) := by decide +kernel
theorem dX9_holds_45 : decode cX9_holds 45 = .ok (.aload_n 0, 1) := by decide +kernel
theorem dX9_holds_46 : decode cX9_holds 46 = .ok (.getfield 16, 3) := by decide +kernel
theorem dX9_holds_49 : decode cX9_holds 49 = .ok (.if_icmp .ne 7, 3) := by decide +kernel
theorem dX9_holds_52 : decode cX9_holds 52 = .ok (.iconst 1, 1) := by decide +kernel
theorem dX9_holds_53 : decode cX9_holds 53 = .ok (.goto 20, 3) := by decide +kernel
theorem dX9_holds_56 : decode cX9_holds 56 = .ok (.iconst 0, 1) := by decide +kernel
theorem dX9_holds_57 : decode cX9_holds 57 = .ok (.goto 16, 3) := by decide +kernel
theorem dX9_holds_60 : decode cX9_holds 60 = .ok (.iload_n 3, 1) := by decide +kernel
theorem dX9_holds_61 : decode cX9_holds 61 = .ok (.aload_n 0, 1) := by decide +kernel
theorem dX9_holds_62 : decode cX9_holds 62 = .ok (.getfield 16, 3) := by decide +kernel
theorem dX9_holds_65 : decode cX9_holds 65 = .ok (.if_icmp .le 7, 3) := by decide +kernel
theorem dX9_holds_68 : decode cX9_holds 68 = .ok (.iconst 1, 1) := by decide +kernel
theorem dX9_holds_69 : decode cX9_holds 69 = .ok (.goto 4, 3) := by decide +kernel
theorem dX9_holds_72 : decode cX9_holds 72 = .ok (.iconst 0, 1) := by decide +kernel
theorem dX9_holds_73 : decode cX9_holds 73 = .ok (.ireturn, 1) := by decide +kernel
theorem dX9_init_0 : decode cX9_init 0 = .ok (.aload_n 0, 1) := by decide +kernel
theorem dX9_init_1 : decode cX9_init 1 = .ok (.invokespecial 1, 3) := by decide +kernel
theorem dX9_init_4 : decode cX9_init 4 = .ok (.aload_n 0, 1) := by decide +kernel
theorem dX9_init_5 : decode cX9_init 5 = .ok (.iload_n 1, 1) := by decide +kernel
theorem dX9_init_6 : decode cX9_init 6 = .ok (.putfield 7, 3) := by decide +kernel
theorem dX9_init_9 : decode cX9_init 9 = .ok (.aload_n 0, 1) := by decide +kernel
theorem dX9_init_10 : decode cX9_init 10 = .ok (.iload_n 2, 1) := by decide +kernel
theorem dX9_init_11 : decode cX9_init 11 = .ok (.putfield 13, 3) := by decide +kernel
theorem dX9_init_14 : decode cX9_init 14 = .ok (.aload_n 0, 1) := by decide +kernel
theorem dX9_init_15 : decode cX9_init 15 = .ok (.iload_n 3, 1) := by decide +kernel
theorem dX9_init_16 : decode cX9_init 16 = .ok (.putfield 16, 3) := by decide +kernel
theorem dX9_init_19 : decode cX9_init 19 = .ok (.return_, 1) := by decide +kernel
theorem dX10_goes_0 : decode cX10_goes 0 = .ok (.iconst 0, 1) := by decide +kernel
theorem dX10_goes_1 : decode cX10_goes 1 = .ok (.istore_n 3, 1) := by decide +kernel
theorem dX10_goes_2 : decode cX10_goes 2 = .ok (.iload_n 3, 1) := by decide +kernel
theorem dX10_goes_3 : decode cX10_goes 3 = .ok (.aload_n 0, 1) := by decide +kernel
theorem dX10_goes_4 : decode cX10_goes 4 = .ok (.getfield 12, 3) := by decide +kernel
theorem dX10_goes_7 : decode cX10_goes 7 = .ok (.invokevirtual 18, 3) := by decide +kernel
theorem dX10_goes_10 : decode cX10_goes 10 = .ok (.if_icmp .ge 31, 3) := by decide +kernel
theorem dX10_goes_13 : decode cX10_goes 13 = .ok (.aload_n 0, 1) := by decide +kernel
theorem dX10_goes_14 : decode cX10_goes 14 = .ok (.getfield 12, 3) := by decide +kernel
theorem dX10_goes_17 : decode cX10_goes 17 = .ok (.iload_n 3, 1) := by decide +kernel
theorem dX10_goes_18 : decode cX10_goes 18 = .ok (.invokevirtual 22, 3) := by decide +kernel
theorem dX10_goes_21 : decode cX10_goes 21 = .ok (.checkcast 26, 3) := by decide +kernel
theorem dX10_goes_24 : decode cX10_goes 24 = .ok (.aload_n 1, 1) := by decide +kernel
theorem dX10_goes_25 : decode cX10_goes 25 = .ok (.aload_n 2, 1) := by decide +kernel
theorem dX10_goes_26 : decode cX10_goes 26 = .ok (.invokeinterface 28 3, 5) := by decide +kernel
theorem dX10_goes_31 : decode cX10_goes 31 = .ok (.ifCond .ne 4, 3) := by decide +kernel
theorem dX10_goes_34 : decode cX10_goes 34 = .ok (.return_, 1) := by decide +kernel
theorem dX10_goes_35 : decode cX10_goes 35 = .ok (.iinc 3 1, 3) := by decide +kernel
theorem dX10_goes_38 : decode cX10_goes 38 = .ok (.goto (-36), 3) := by decide +kernel
theorem dX10_goes_41 : decode cX10_goes 41 = .ok (.aload_n 0, 1) := by decide +kernel
theorem dX10_goes_42 : decode cX10_goes 42 = .ok (.aload_n 1, 1) := by decide +kernel
theorem dX10_goes_43 : decode cX10_goes 43 = .ok (.aload_n 2, 1) := by decide +kernel
theorem dX10_goes_44 : decode cX10_goes 44 = .ok (.invokevirtual 32, 3) := by decide +kernel
theorem dX10_goes_47 : decode cX10_goes 47 = .ok (.return_, 1) := by decide +kernel
theorem dX10_init_0 : decode cX10_init 0 = .ok (.aload_n 0, 1) := by decide +kernel
theorem dX10_init_1 : decode cX10_init 1 = .ok (.invokespecial 1, 3) := by decide +kernel
theorem dX10_init_4 : decode cX10_init 4 = .ok (.aload_n 0, 1) := by decide +kernel
theorem dX10_init_5 : decode cX10_init 5 = .ok (.new 7, 3) := by decide +kernel
theorem dX10_init_8 : decode cX10_init 8 = .ok (.dup, 1) := by decide +kernel
theorem dX10_init_9 : decode cX10_init 9 = .ok (.iconst 2, 1) := by decide +kernel
theorem dX10_init_10 : decode cX10_init 10 = .ok (.invokespecial 9, 3) := by decide +kernel
theorem dX10_init_13 : decode cX10_init 13 = .ok (.putfield 12, 3) := by decide +kernel
theorem dX10_init_16 : decode cX10_init 16 = .ok (.return_, 1) := by decide +kernel
theorem dX11_does_0 : decode cX11_does 0 = .ok (.aload_n 2, 1) := by decide +kernel
theorem dX11_does_1 : decode cX11_does 1 = .ok (.iconst 0, 1) := by decide +kernel
theorem dX11_does_2 : decode cX11_does 2 = .ok (.putfield 7, 3) := by decide +kernel
theorem dX11_does_5 : decode cX11_does 5 = .ok (.return_, 1) := by decide +kernel
theorem dX11_init_0 : decode cX11_init 0 = .ok (.aload_n 0, 1) := by decide +kernel
theorem dX11_init_1 : decode cX11_init 1 = .ok (.invokespecial 1, 3) := by decide +kernel
theorem dX11_init_4 : decode cX11_init 4 = .ok (.return_, 1) := by decide +kernel
theorem dX12_does_0 : decode cX12_does 0 = .ok (.aload_n 1, 1) := by decide +kernel
theorem dX12_does_1 : decode cX12_does 1 = .ok (.aload_n 2, 1) := by decide +kernel
theorem dX12_does_2 : decode cX12_does 2 = .ok (.iconst 2, 1) := by decide +kernel
theorem dX12_does_3 : decode cX12_does 3 = .ok (.invokevirtual 9, 3) := by decide +kernel
theorem dX12_does_6 : decode cX12_does 6 = .ok (.return_, 1) := by decide +kernel
theorem dX12_init_0 : decode cX12_init 0 = .ok (.aload_n 0, 1) := by decide +kernel
theorem dX12_init_1 : decode cX12_init 1 = .ok (.invokespecial 3, 3) := by decide +kernel
theorem dX12_init_4 : decode cX12_init 4 = .ok (.return_, 1) := by decide +kernel
theorem dX13_does_0 : decode cX13_does 0 = .ok (.aload_n 2, 1) := by decide +kernel
theorem dX13_does_1 : decode cX13_does 1 = .ok (.iconst 1, 1) := by decide +kernel
theorem dX13_does_2 : decode cX13_does 2 = .ok (.putfield 9, 3) := by decide +kernel
theorem dX13_does_5 : decode cX13_does 5 = .ok (.return_, 1) := by decide +kernel
theorem dX13_init_0 : decode cX13_init 0 = .ok (.aload_n 0, 1) := by decide +kernel
theorem dX13_init_1 : decode cX13_init 1 = .ok (.invokespecial 3, 3) := by decide +kernel
theorem dX13_init_4 : decode cX13_init 4 = .ok (.return_, 1) := by decide +kernel
theorem dX14_does_0 : decode cX14_does 0 = .ok (.aload_n 2, 1) := by decide +kernel
theorem dX14_does_1 : decode cX14_does 1 = .ok (.invokevirtual 9, 3) := by decide +kernel
theorem dX14_does_4 : decode cX14_does 4 = .ok (.aload_n 0, 1) := by decide +kernel
theorem dX14_does_5 : decode cX14_does 5 = .ok (.invokevirtual 15, 3) := by decide +kernel
theorem dX14_does_8 : decode cX14_does 8 = .ok (.if_icmp .ne 4, 3) := by decide +kernel
theorem dX14_does_11 : decode cX14_does 11 = .ok (.return_, 1) := by decide +kernel
theorem dX14_does_12 : decode cX14_does 12 = .ok (.aload_n 0, 1) := by decide +kernel
theorem dX14_does_13 : decode cX14_does 13 = .ok (.invokevirtual 15, 3) := by decide +kernel
theorem dX14_does_16 : decode cX14_does 16 = .ok (.ifCond .eq 14, 3) := by decide +kernel
theorem dX14_does_19 : decode cX14_does 19 = .ok (.aload_n 1, 1) := by decide +kernel
theorem dX14_does_20 : decode cX14_does 20 = .ok (.bipush 8, 2) := by decide +kernel
theorem dX14_does_22 : decode cX14_does 22 = .ok (.bipush 12, 2) := by decide +kernel
theorem dX14_does_24 : decode cX14_does 24 = .ok (.invokevirtual 20, 3) := by decide +kernel
theorem dX14_does_27 : decode cX14_does 27 = .ok (.goto 10, 3) := by decide +kernel
theorem dX14_does_30 : decode cX14_does 30 = .ok (.aload_n 1, 1) := by decide +kernel
theorem dX14_does_31 : decode cX14_does 31 = .ok (.iconst 0, 1) := by decide +kernel
theorem dX14_does_32 : decode cX14_does 32 = .ok (.bipush 8, 2) := by decide +kernel
theorem dX14_does_34 : decode cX14_does 34 = .ok (.invokevirtual 20, 3) := by decide +kernel
theorem dX14_does_37 : decode cX14_does 37 = .ok (.istore_n 3, 1) := by decide +kernel
theorem dX14_does_38 : decode cX14_does 38 = .ok (.iload_n 3, 1) := by decide +kernel
theorem dX14_does_39 : decode cX14_does 39 = .ok (.iconst (-1), 1) := by decide +kernel
theorem dX14_does_40 : decode cX14_does 40 = .ok (.if_icmp .eq 8, 3) := by decide +kernel
theorem dX14_does_43 : decode cX14_does 43 = .ok (.aload_n 2, 1) := by decide +kernel
theorem dX14_does_44 : decode cX14_does 44 = .ok (.iload_n 3, 1) := by decide +kernel
theorem dX14_does_45 : decode cX14_does 45 = .ok (.putfield 24, 3) := by decide +kernel
theorem dX14_does_48 : decode cX14_does 48 = .ok (.return_, 1) := by decide +kernel
theorem dX14_init_0 : decode cX14_init 0 = .ok (.aload_n 0, 1) := by decide +kernel
theorem dX14_init_1 : decode cX14_init 1 = .ok (.invokespecial 3, 3) := by decide +kernel
theorem dX14_init_4 : decode cX14_init 4 = .ok (.return_, 1) := by decide +kernel
theorem dX15_does_0 : decode cX15_does 0 = .ok (.aload_n 0, 1) := by decide +kernel
theorem dX15_does_1 : decode cX15_does 1 = .ok (.aload_n 1, 1) := by decide +kernel
theorem dX15_does_2 : decode cX15_does 2 = .ok (.aload_n 2, 1) := by decide +kernel
theorem dX15_does_3 : decode cX15_does 3 = .ok (.invokespecial 7, 3) := by decide +kernel
theorem dX15_does_6 : decode cX15_does 6 = .ok (.return_, 1) := by decide +kernel
theorem dX15_toCold_0 : decode cX15_toCold 0 = .ok (.iconst 1, 1) := by decide +kernel
theorem dX15_toCold_1 : decode cX15_toCold 1 = .ok (.ireturn, 1) := by decide +kernel
theorem dX15_init_0 : decode cX15_init 0 = .ok (.aload_n 0, 1) := by decide +kernel
theorem dX15_init_1 : decode cX15_init 1 = .ok (.invokespecial 1, 3) := by decide +kernel
theorem dX15_init_4 : decode cX15_init 4 = .ok (.return_, 1) := by decide +kernel
theorem dX16_toCold_0 : decode cX16_toCold 0 = .ok (.iconst 0, 1) := by decide +kernel
theorem dX16_toCold_1 : decode cX16_toCold 1 = .ok (.ireturn, 1) := by decide +kernel
theorem dX16_init_0 : decode cX16_init 0 = .ok (.aload_n 0, 1) := by decide +kernel
theorem dX16_init_1 : decode cX16_init 1 = .ok (.invokespecial 1, 3) := by decide +kernel
theorem dX16_init_4 : decode cX16_init 4 = .ok (.return_, 1) := by decide +kernel
theorem dX17_does_0 : decode cX17_does 0 = .ok (.aload_n 2, 1) := by decide +kernel
theorem dX17_does_1 : decode cX17_does 1 = .ok (.bipush 60, 2) := by decide +kernel
theorem dX17_does_3 : decode cX17_does 3 = .ok (.aload_n 2, 1) := by decide +kernel
theorem dX17_does_4 : decode cX17_does 4 = .ok (.getfield 13, 3) := by decide +kernel
theorem dX17_does_7 : decode cX17_does 7 = .ok (.aload_n 0, 1) := by decide +kernel
theorem dX17_does_8 : decode cX17_does 8 = .ok (.getfield 7, 3) := by decide +kernel
theorem dX17_does_11 : decode cX17_does 11 = .ok (.iadd, 1) := by decide +kernel
theorem dX17_does_12 : decode cX17_does 12 = .ok (.invokestatic 18, 3) := by decide +kernel
theorem dX17_does_15 : decode cX17_does 15 = .ok (.putfield 13, 3) := by decide +kernel
theorem dX17_does_18 : decode cX17_does 18 = .ok (.return_, 1) := by decide +kernel
theorem dX17_init_0 : decode cX17_init 0 = .ok (.aload_n 0, 1) := by decide +kernel
theorem dX17_init_1 : decode cX17_init 1 = .ok (.invokespecial 1, 3) := by decide +kernel
theorem dX17_init_4 : decode cX17_init 4 = .ok (.aload_n 0, 1) := by decide +kernel
theorem dX17_init_5 : decode cX17_init 5 = .ok (.iload_n 1, 1) := by decide +kernel
theorem dX17_init_6 : decode cX17_init 6 = .ok (.putfield 7, 3) := by decide +kernel
theorem dX17_init_9 : decode cX17_init 9 = .ok (.return_, 1) := by decide +kernel
theorem dX18_init_0 : decode cX18_init 0 = .ok (.aload_n 0, 1) := by decide +kernel
theorem dX18_init_1 : decode cX18_init 1 = .ok (.invokespecial 1, 3) := by decide +kernel
theorem dX18_init_4 : decode cX18_init 4 = .ok (.return_, 1) := by decide +kernel
theorem dJ2_init_0 : decode cJ2_init 0 = .ok (.aload_n 0, 1) := by decide +kernel
theorem dJ2_init_1 : decode cJ2_init 1 = .ok (.invokespecial 1, 3) := by decide +kernel
theorem dJ2_init_4 : decode cJ2_init 4 = .ok (.aload_n 0, 1) := by decide +kernel
theorem dJ2_init_5 : decode cJ2_init 5 = .ok (.getstatic 39, 3) := by decide +kernel
theorem dJ2_init_8 : decode cJ2_init 8 = .ok (.putfield 9, 3) := by decide +kernel
theorem dJ2_init_11 : decode cJ2_init 11 = .ok (.return_, 1) := by decide +kernel
theorem dJ2_size_0 : decode cJ2_size 0 = .ok (.aload_n 0, 1) := by decide +kernel
theorem dJ2_size_1 : decode cJ2_size 1 = .ok (.getfield 48, 3) := by decide +kernel
theorem dJ2_size_4 : decode cJ2_size 4 = .ok (.ireturn, 1) := by decide +kernel
theorem dJ2_get_0 : decode cJ2_get 0 = .ok (.iload_n 1, 1) := by decide +kernel
theorem dJ2_get_1 : decode cJ2_get 1 = .ok (.aload_n 0, 1) := by decide +kernel
theorem dJ2_get_2 : decode cJ2_get 2 = .ok (.getfield 48, 3) := by decide +kernel
theorem dJ2_get_5 : decode cJ2_get 5 = .ok (.invokestatic 118, 3) := by decide +kernel
theorem dJ2_get_8 : decode cJ2_get 8 = .ok (.pop, 1) := by decide +kernel
theorem dJ2_get_9 : decode cJ2_get 9 = .ok (.aload_n 0, 1) := by decide +kernel
theorem dJ2_get_10 : decode cJ2_get 10 = .ok (.iload_n 1, 1) := by decide +kernel
theorem dJ2_get_11 : decode cJ2_get 11 = .ok (.invokevirtual 123, 3) := by decide +kernel
theorem dJ2_get_14 : decode cJ2_get 14 = .ok (.areturn, 1) := by decide +kernel
theorem dJ2_elementData_0 : decode cJ2_elementData 0 = .ok (.aload_n 0, 1) := by decide +kernel
theorem dJ2_elementData_1 : decode cJ2_elementData 1 = .ok (.getfield 9, 3) := by decide +kernel
theorem dJ2_elementData_4 : decode cJ2_elementData 4 = .ok (.iload_n 1, 1) := by decide +kernel
theorem dJ2_elementData_5 : decode cJ2_elementData 5 = .ok (.aaload, 1) := by decide +kernel
theorem dJ2_elementData_6 : decode cJ2_elementData 6 = .ok (.areturn, 1) := by decide +kernel
theorem dJ2_add_0 : decode cJ2_add 0 = .ok (.aload_n 0, 1) := by decide +kernel
theorem dJ2_add_1 : decode cJ2_add 1 = .ok (.dup, 1) := by decide +kernel
theorem dJ2_add_2 : decode cJ2_add 2 = .ok (.getfield 63, 3) := by decide +kernel
theorem dJ2_add_5 : decode cJ2_add 5 = .ok (.iconst 1, 1) := by decide +kernel
theorem dJ2_add_6 : decode cJ2_add 6 = .ok (.iadd, 1) := by decide +kernel
theorem dJ2_add_7 : decode cJ2_add 7 = .ok (.putfield 63, 3) := by decide +kernel
theorem dJ2_add_10 : decode cJ2_add 10 = .ok (.aload_n 0, 1) := by decide +kernel
theorem dJ2_add_11 : decode cJ2_add 11 = .ok (.aload_n 1, 1) := by decide +kernel
theorem dJ2_add_12 : decode cJ2_add 12 = .ok (.aload_n 0, 1) := by decide +kernel
theorem dJ2_add_13 : decode cJ2_add 13 = .ok (.getfield 9, 3) := by decide +kernel
theorem dJ2_add_16 : decode cJ2_add 16 = .ok (.aload_n 0, 1) := by decide +kernel
theorem dJ2_add_17 : decode cJ2_add 17 = .ok (.getfield 48, 3) := by decide +kernel
theorem dJ2_add_20 : decode cJ2_add 20 = .ok (.invokevirtual 131, 3) := by decide +kernel
theorem dJ2_add_23 : decode cJ2_add 23 = .ok (.iconst 1, 1) := by decide +kernel
theorem dJ2_add_24 : decode cJ2_add 24 = .ok (.ireturn, 1) := by decide +kernel
theorem dJ2_add_2_0 : decode cJ2_add_2 0 = .ok (.iload_n 3, 1) := by decide +kernel
theorem dJ2_add_2_1 : decode cJ2_add_2 1 = .ok (.aload_n 2, 1) := by decide +kernel
theorem dJ2_add_2_2 : decode cJ2_add_2 2 = .ok (.arraylength, 1) := by decide +kernel
theorem dJ2_add_2_3 : decode cJ2_add_2 3 = .ok (.if_icmp .ne 8, 3) := by decide +kernel
theorem dJ2_add_2_6 : decode cJ2_add_2 6 = .ok (.aload_n 0, 1) := by decide +kernel
theorem dJ2_add_2_7 : decode cJ2_add_2 7 = .ok (.invokevirtual 129, 3) := by decide +kernel
theorem dJ2_add_2_10 : decode cJ2_add_2 10 = .ok (.astore_n 2, 1) := by decide +kernel
theorem dJ2_add_2_11 : decode cJ2_add_2 11 = .ok (.aload_n 2, 1) := by decide +kernel
theorem dJ2_add_2_12 : decode cJ2_add_2 12 = .ok (.iload_n 3, 1) := by decide +kernel
theorem dJ2_add_2_13 : decode cJ2_add_2 13 = .ok (.aload_n 1, 1) := by decide +kernel
theorem dJ2_add_2_14 : decode cJ2_add_2 14 = .ok (.aastore, 1) := by decide +kernel
theorem dJ2_add_2_15 : decode cJ2_add_2 15 = .ok (.aload_n 0, 1) := by decide +kernel
theorem dJ2_add_2_16 : decode cJ2_add_2 16 = .ok (.iload_n 3, 1) := by decide +kernel
theorem dJ2_add_2_17 : decode cJ2_add_2 17 = .ok (.iconst 1, 1) := by decide +kernel
theorem dJ2_add_2_18 : decode cJ2_add_2 18 = .ok (.iadd, 1) := by decide +kernel
theorem dJ2_add_2_19 : decode cJ2_add_2 19 = .ok (.putfield 48, 3) := by decide +kernel
theorem dJ2_add_2_22 : decode cJ2_add_2 22 = .ok (.return_, 1) := by decide +kernel
theorem dJ2_grow_0 : decode cJ2_grow 0 = .ok (.aload_n 0, 1) := by decide +kernel
theorem dJ2_grow_1 : decode cJ2_grow 1 = .ok (.aload_n 0, 1) := by decide +kernel
theorem dJ2_grow_2 : decode cJ2_grow 2 = .ok (.getfield 48, 3) := by decide +kernel
theorem dJ2_grow_5 : decode cJ2_grow 5 = .ok (.iconst 1, 1) := by decide +kernel
theorem dJ2_grow_6 : decode cJ2_grow 6 = .ok (.iadd, 1) := by decide +kernel
theorem dJ2_grow_7 : decode cJ2_grow 7 = .ok (.invokevirtual 69, 3) := by decide +kernel
theorem dJ2_grow_10 : decode cJ2_grow 10 = .ok (.areturn, 1) := by decide +kernel
theorem dJ2_grow_2_0 : decode cJ2_grow_2 0 = .ok (.aload_n 0, 1) := by decide +kernel
theorem dJ2_grow_2_1 : decode cJ2_grow_2 1 = .ok (.getfield 9, 3) := by decide +kernel
theorem dJ2_grow_2_4 : decode cJ2_grow_2 4 = .ok (.arraylength, 1) := by decide +kernel
theorem dJ2_grow_2_5 : decode cJ2_grow_2 5 = .ok (.istore_n 2, 1) := by decide +kernel
theorem dJ2_grow_2_6 : decode cJ2_grow_2 6 = .ok (.iload_n 2, 1) := by decide +kernel
theorem dJ2_grow_2_7 : decode cJ2_grow_2 7 = .ok (.ifCond .gt 13, 3) := by decide +kernel
theorem dJ2_grow_2_10 : decode cJ2_grow_2 10 = .ok (.aload_n 0, 1) := by decide +kernel
theorem dJ2_grow_2_11 : decode cJ2_grow_2 11 = .ok (.getfield 9, 3) := by decide +kernel
theorem dJ2_grow_2_14 : decode cJ2_grow_2 14 = .ok (.getstatic 39, 3) := by decide +kernel
theorem dJ2_grow_2_17 : decode cJ2_grow_2 17 = .ok (.if_acmp .eq 28, 3) := by decide +kernel
theorem dJ2_grow_2_20 : decode cJ2_grow_2 20 = .ok (.iload_n 2, 1) := by decide +kernel
theorem dJ2_grow_2_21 : decode cJ2_grow_2 21 = .ok (.iload_n 1, 1) := by decide +kernel
theorem dJ2_grow_2_22 : decode cJ2_grow_2 22 = .ok (.iload_n 2, 1) := by decide +kernel
theorem dJ2_grow_2_23 : decode cJ2_grow_2 23 = .ok (.isub, 1) := by decide +kernel
theorem dJ2_grow_2_24 : decode cJ2_grow_2 24 = .ok (.iload_n 2, 1) := by decide +kernel
theorem dJ2_grow_2_25 : decode cJ2_grow_2 25 = .ok (.iconst 1, 1) := by decide +kernel
theorem dJ2_grow_2_26 : decode cJ2_grow_2 26 = .ok (.ishr, 1) := by decide +kernel
theorem dJ2_grow_2_27 : decode cJ2_grow_2 27 = .ok (.invokestatic 73, 3) := by decide +kernel
theorem dJ2_grow_2_30 : decode cJ2_grow_2 30 = .ok (.istore_n 3, 1) := by decide +kernel
theorem dJ2_grow_2_31 : decode cJ2_grow_2 31 = .ok (.aload_n 0, 1) := by decide +kernel
theorem dJ2_grow_2_32 : decode cJ2_grow_2 32 = .ok (.aload_n 0, 1) := by decide +kernel
theorem dJ2_grow_2_33 : decode cJ2_grow_2 33 = .ok (.getfield 9, 3) := by decide +kernel
theorem dJ2_grow_2_36 : decode cJ2_grow_2 36 = .ok (.iload_n 3, 1) := by decide +kernel
theorem dJ2_grow_2_37 : decode cJ2_grow_2 37 = .ok (.invokestatic 66, 3) := by decide +kernel
theorem dJ2_grow_2_40 : decode cJ2_grow_2 40 = .ok (.dup_x1, 1) := by decide +kernel
theorem dJ2_grow_2_41 : decode cJ2_grow_2 41 = .ok (.putfield 9, 3) := by decide +kernel
theorem dJ2_grow_2_44 : decode cJ2_grow_2 44 = .ok (.areturn, 1) := by decide +kernel
theorem dJ2_grow_2_45 : decode cJ2_grow_2 45 = .ok (.aload_n 0, 1) := by decide +kernel
theorem dJ2_grow_2_46 : decode cJ2_grow_2 46 = .ok (.bipush 10, 2) := by decide +kernel
theorem dJ2_grow_2_48 : decode cJ2_grow_2 48 = .ok (.iload_n 1, 1) := by decide +kernel
theorem dJ2_grow_2_49 : decode cJ2_grow_2 49 = .ok (.invokestatic 79, 3) := by decide +kernel
theorem dJ2_grow_2_52 : decode cJ2_grow_2 52 = .ok (.anewarray 7, 3) := by decide +kernel
theorem dJ2_grow_2_55 : decode cJ2_grow_2 55 = .ok (.dup_x1, 1) := by decide +kernel
theorem dJ2_grow_2_56 : decode cJ2_grow_2 56 = .ok (.putfield 9, 3) := by decide +kernel
theorem dJ2_grow_2_59 : decode cJ2_grow_2 59 = .ok (.areturn, 1) := by decide +kernel
theorem dJ2_init_2_0 : decode cJ2_init_2 0 = .ok (.aload_n 0, 1) := by decide +kernel
theorem dJ2_init_2_1 : decode cJ2_init_2 1 = .ok (.invokespecial 1, 3) := by decide +kernel
theorem dJ2_init_2_4 : decode cJ2_init_2 4 = .ok (.iload_n 1, 1) := by decide +kernel
theorem dJ2_init_2_5 : decode cJ2_init_2 5 = .ok (.ifCond .le 14, 3) := by decide +kernel
theorem dJ2_init_2_8 : decode cJ2_init_2 8 = .ok (.aload_n 0, 1) := by decide +kernel
theorem dJ2_init_2_9 : decode cJ2_init_2 9 = .ok (.iload_n 1, 1) := by decide +kernel
theorem dJ2_init_2_10 : decode cJ2_init_2 10 = .ok (.anewarray 7, 3) := by decide +kernel
theorem dJ2_init_2_13 : decode cJ2_init_2 13 = .ok (.putfield 9, 3) := by decide +kernel
theorem dJ2_init_2_16 : decode cJ2_init_2 16 = .ok (.goto 44, 3) := by decide +kernel
theorem dJ2_init_2_19 : decode cJ2_init_2 19 = .ok (.iload_n 1, 1) := by decide +kernel
theorem dJ2_init_2_20 : decode cJ2_init_2 20 = .ok (.ifCond .ne 13, 3) := by decide +kernel
theorem dJ2_init_2_23 : decode cJ2_init_2 23 = .ok (.aload_n 0, 1) := by decide +kernel
theorem dJ2_init_2_24 : decode cJ2_init_2 24 = .ok (.getstatic 15, 3) := by decide +kernel
theorem dJ2_init_2_27 : decode cJ2_init_2 27 = .ok (.putfield 9, 3) := by decide +kernel
theorem dJ2_init_2_30 : decode cJ2_init_2 30 = .ok (.goto 30, 3) := by decide +kernel
theorem dJ2_init_2_33 : decode cJ2_init_2 33 = .ok (.new 18, 3) := by decide +kernel
theorem dJ2_init_2_36 : decode cJ2_init_2 36 = .ok (.dup, 1) := by decide +kernel
theorem dJ2_init_2_37 : decode cJ2_init_2 37 = .ok (.new 20, 3) := by decide +kernel
theorem dJ2_init_2_40 : decode cJ2_init_2 40 = .ok (.dup, 1) := by decide +kernel
theorem dJ2_init_2_41 : decode cJ2_init_2 41 = .ok (.invokespecial 22, 3) := by decide +kernel
theorem dJ2_init_2_44 : decode cJ2_init_2 44 = .ok (.ldc 23, 2) := by decide +kernel
theorem dJ2_init_2_46 : decode cJ2_init_2 46 = .ok (.invokevirtual 25, 3) := by decide +kernel
theorem dJ2_init_2_49 : decode cJ2_init_2 49 = .ok (.iload_n 1, 1) := by decide +kernel
theorem dJ2_init_2_50 : decode cJ2_init_2 50 = .ok (.invokevirtual 29, 3) := by decide +kernel
theorem dJ2_init_2_53 : decode cJ2_init_2 53 = .ok (.invokevirtual 32, 3) := by decide +kernel
theorem dJ2_init_2_56 : decode cJ2_init_2 56 = .ok (.invokespecial 36, 3) := by decide +kernel
theorem dJ2_init_2_59 : decode cJ2_init_2 59 = .ok (.athrow, 1) := by decide +kernel
theorem dJ2_init_2_60 : decode cJ2_init_2 60 = .ok (.return_, 1) := by decide +kernel
theorem dJ2_indexOf_0 : decode cJ2_indexOf 0 = .ok (.aload_n 0, 1) := by decide +kernel
theorem dJ2_indexOf_1 : decode cJ2_indexOf 1 = .ok (.aload_n 1, 1) := by decide +kernel
theorem dJ2_indexOf_2 : decode cJ2_indexOf 2 = .ok (.iconst 0, 1) := by decide +kernel
theorem dJ2_indexOf_3 : decode cJ2_indexOf 3 = .ok (.aload_n 0, 1) := by decide +kernel
theorem dJ2_indexOf_4 : decode cJ2_indexOf 4 = .ok (.getfield 48, 3) := by decide +kernel
theorem dJ2_indexOf_7 : decode cJ2_indexOf 7 = .ok (.invokevirtual 89, 3) := by decide +kernel
theorem dJ2_indexOf_10 : decode cJ2_indexOf 10 = .ok (.ireturn, 1) := by decide +kernel
theorem dJ2_indexOfRange_0 : decode cJ2_indexOfRange 0 = .ok (.aload_n 0, 1) := by decide +kernel
theorem dJ2_indexOfRange_1 : decode cJ2_indexOfRange 1 = .ok (.getfield 9, 3) := by decide +kernel
theorem dJ2_indexOfRange_4 : decode cJ2_indexOfRange 4 = .ok (.astore 4, 2) := by decide +kernel
theorem dJ2_indexOfRange_6 : decode cJ2_indexOfRange 6 = .ok (.aload_n 1, 1) := by decide +kernel
theorem dJ2_indexOfRange_7 : decode cJ2_indexOfRange 7 = .ok (.ifnonnull 32, 3) := by decide +kernel
theorem dJ2_indexOfRange_10 : decode cJ2_indexOfRange 10 = .ok (.iload_n 2, 1) := by decide +kernel
theorem dJ2_indexOfRange_11 : decode cJ2_indexOfRange 11 = .ok (.istore 5, 2) := by decide +kernel
theorem dJ2_indexOfRange_13 : decode cJ2_indexOfRange 13 = .ok (.iload 5, 2) := by decide +kernel
theorem dJ2_indexOfRange_15 : decode cJ2_indexOfRange 15 = .ok (.iload_n 3, 1) := by decide +kernel
theorem dJ2_indexOfRange_16 : decode cJ2_indexOfRange 16 = .ok (.if_icmp .ge 20, 3) := by decide +kernel
theorem dJ2_indexOfRange_19 : decode cJ2_indexOfRange 19 = .ok (.aload 4, 2) := by decide +kernel
theorem dJ2_indexOfRange_21 : decode cJ2_indexOfRange 21 = .ok (.iload 5, 2) := by decide +kernel
theorem dJ2_indexOfRange_23 : decode cJ2_indexOfRange 23 = .ok (.aaload, 1) := by decide +kernel
theorem dJ2_indexOfRange_24 : decode cJ2_indexOfRange 24 = .ok (.ifnonnull 6, 3) := by decide +kernel
theorem dJ2_indexOfRange_27 : decode cJ2_indexOfRange 27 = .ok (.iload 5, 2) := by decide +kernel
theorem dJ2_indexOfRange_29 : decode cJ2_indexOfRange 29 = .ok (.ireturn, 1) := by decide +kernel
theorem dJ2_indexOfRange_30 : decode cJ2_indexOfRange 30 = .ok (.iinc 5 1, 3) := by decide +kernel
theorem dJ2_indexOfRange_33 : decode cJ2_indexOfRange 33 = .ok (.goto (-20), 3) := by decide +kernel
theorem dJ2_indexOfRange_36 : decode cJ2_indexOfRange 36 = .ok (.goto 33, 3) := by decide +kernel
theorem dJ2_indexOfRange_39 : decode cJ2_indexOfRange 39 = .ok (.iload_n 2, 1) := by decide +kernel
theorem dJ2_indexOfRange_40 : decode cJ2_indexOfRange 40 = .ok (.istore 5, 2) := by decide +kernel
theorem dJ2_indexOfRange_42 : decode cJ2_indexOfRange 42 = .ok (.iload 5, 2) := by decide +kernel
theorem dJ2_indexOfRange_44 : decode cJ2_indexOfRange 44 = .ok (.iload_n 3, 1) := by decide +kernel
theorem dJ2_indexOfRange_45 : decode cJ2_indexOfRange 45 = .ok (.if_icmp .ge 24, 3) := by decide +kernel
theorem dJ2_indexOfRange_48 : decode cJ2_indexOfRange 48 = .ok (.aload_n 1, 1) := by decide +kernel
theorem dJ2_indexOfRange_49 : decode cJ2_indexOfRange 49 = .ok (.aload 4, 2) := by decide +kernel
theorem dJ2_indexOfRange_51 : decode cJ2_indexOfRange 51 = .ok (.iload 5, 2) := by decide +kernel
theorem dJ2_indexOfRange_53 : decode cJ2_indexOfRange 53 = .ok (.aaload, 1) := by decide +kernel
theorem dJ2_indexOfRange_54 : decode cJ2_indexOfRange 54 = .ok (.invokevirtual 93, 3) := by decide +kernel
theorem dJ2_indexOfRange_57 : decode cJ2_indexOfRange 57 = .ok (.ifCond .eq 6, 3) := by decide +kernel
theorem dJ2_indexOfRange_60 : decode cJ2_indexOfRange 60 = .ok (.iload 5, 2) := by decide +kernel
theorem dJ2_indexOfRange_62 : decode cJ2_indexOfRange 62 = .ok (.ireturn, 1) := by decide +kernel
theorem dJ2_indexOfRange_63 : decode cJ2_indexOfRange 63 = .ok (.iinc 5 1, 3) := by decide +kernel
theorem dJ2_indexOfRange_66 : decode cJ2_indexOfRange 66 = .ok (.goto (-24), 3) := by decide +kernel
theorem dJ2_indexOfRange_69 : decode cJ2_indexOfRange 69 = .ok (.iconst (-1), 1) := by decide +kernel
theorem dJ2_indexOfRange_70 : decode cJ2_indexOfRange 70 = .ok (.ireturn, 1) := by decide +kernel
theorem dJ9_max_0 : decode cJ9_max 0 = .ok (.iload_n 0, 1) := by decide +kernel
theorem dJ9_max_1 : decode cJ9_max 1 = .ok (.iload_n 1, 1) := by decide +kernel
theorem dJ9_max_2 : decode cJ9_max 2 = .ok (.if_icmp .lt 7, 3) := by decide +kernel
theorem dJ9_max_5 : decode cJ9_max 5 = .ok (.iload_n 0, 1) := by decide +kernel
theorem dJ9_max_6 : decode cJ9_max 6 = .ok (.goto 4, 3) := by decide +kernel
theorem dJ9_max_9 : decode cJ9_max 9 = .ok (.iload_n 1, 1) := by decide +kernel
theorem dJ9_max_10 : decode cJ9_max 10 = .ok (.ireturn, 1) := by decide +kernel
theorem dJ9_min_0 : decode cJ9_min 0 = .ok (.iload_n 0, 1) := by decide +kernel
theorem dJ9_min_1 : decode cJ9_min 1 = .ok (.iload_n 1, 1) := by decide +kernel
theorem dJ9_min_2 : decode cJ9_min 2 = .ok (.if_icmp .gt 7, 3) := by decide +kernel
theorem dJ9_min_5 : decode cJ9_min 5 = .ok (.iload_n 0, 1) := by decide +kernel
theorem dJ9_min_6 : decode cJ9_min 6 = .ok (.goto 4, 3) := by decide +kernel
theorem dJ9_min_9 : decode cJ9_min 9 = .ok (.iload_n 1, 1) := by decide +kernel
theorem dJ9_min_10 : decode cJ9_min 10 = .ok (.ireturn, 1) := by decide +kernel
