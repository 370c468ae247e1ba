set_option maxRecDepth 100000
theorem dX2_init_0 : decode cX2_init 0 = .ok (.aload_n 0, 1) := by decide +kernel
theorem dX2_init_1 : decode cX2_init 1 = .ok (.invokespecial 1, 3) := by decide +kernel
theorem dX2_init_4 : decode cX2_init 4 = .ok (.aload_n 0, 1) := by decide +kernel
theorem dX2_init_5 : decode cX2_init 5 = .ok (.bipush 20, 2) := by decide +kernel
theorem dX2_init_7 : decode cX2_init 7 = .ok (.newarray .int, 2) := by decide +kernel
theorem dX2_init_9 : decode cX2_init 9 = .ok (.putfield 7, 3) := by decide +kernel
theorem dX2_init_12 : decode cX2_init 12 = .ok (.aload_n 0, 1) := by decide +kernel
theorem dX2_init_13 : decode cX2_init 13 = .ok (.sipush 200, 3) := by decide +kernel
theorem dX2_init_16 : decode cX2_init 16 = .ok (.newarray .int, 2) := by decide +kernel
theorem dX2_init_18 : decode cX2_init 18 = .ok (.putfield 13, 3) := by decide +kernel
theorem dX2_init_21 : decode cX2_init 21 = .ok (.aload_n 0, 1) := by decide +kernel
theorem dX2_init_22 : decode cX2_init 22 = .ok (.bipush 10, 2) := by decide +kernel
theorem dX2_init_24 : decode cX2_init 24 = .ok (.newarray .int, 2) := by decide +kernel
theorem dX2_init_26 : decode cX2_init 26 = .ok (.putfield 16, 3) := by decide +kernel
theorem dX2_init_29 : decode cX2_init 29 = .ok (.aload_n 0, 1) := by decide +kernel
theorem dX2_init_30 : decode cX2_init 30 = .ok (.bipush 10, 2) := by decide +kernel
theorem dX2_init_32 : decode cX2_init 32 = .ok (.newarray .int, 2) := by decide +kernel
theorem dX2_init_34 : decode cX2_init 34 = .ok (.putfield 19, 3) := by decide +kernel
theorem dX2_init_37 : decode cX2_init 37 = .ok (.aload_n 0, 1) := by decide +kernel
theorem dX2_init_38 : decode cX2_init 38 = .ok (.bipush 10, 2) := by decide +kernel
theorem dX2_init_40 : decode cX2_init 40 = .ok (.newarray .int, 2) := by decide +kernel
theorem dX2_init_42 : decode cX2_init 42 = .ok (.putfield 22, 3) := by decide +kernel
theorem dX2_init_45 : decode cX2_init 45 = .ok (.aload_n 0, 1) := by decide +kernel
theorem dX2_init_46 : decode cX2_init 46 = .ok (.bipush 10, 2) := by decide +kernel
theorem dX2_init_48 : decode cX2_init 48 = .ok (.newarray .int, 2) := by decide +kernel
theorem dX2_init_50 : decode cX2_init 50 = .ok (.putfield 25, 3) := by decide +kernel
theorem dX2_init_53 : decode cX2_init 53 = .ok (.aload_n 0, 1) := by decide +kernel
theorem dX2_init_54 : decode cX2_init 54 = .ok (.bipush 10, 2) := by decide +kernel
theorem dX2_init_56 : decode cX2_init 56 = .ok (.newarray .int, 2) := by decide +kernel
theorem dX2_init_58 : decode cX2_init 58 = .ok (.putfield 28, 3) := by decide +kernel
theorem dX2_init_61 : decode cX2_init 61 = .ok (.aload_n 0, 1) := by decide +kernel
theorem dX2_init_62 : decode cX2_init 62 = .ok (.bipush 10, 2) := by decide +kernel
theorem dX2_init_64 : decode cX2_init 64 = .ok (.newarray .int, 2) := by decide +kernel
theorem dX2_init_66 : decode cX2_init 66 = .ok (.putfield 31, 3) := by decide +kernel
theorem dX2_init_69 : decode cX2_init 69 = .ok (.aload_n 0, 1) := by decide +kernel
theorem dX2_init_70 : decode cX2_init 70 = .ok (.bipush 10, 2) := by decide +kernel
theorem dX2_init_72 : decode cX2_init 72 = .ok (.newarray .int, 2) := by decide +kernel
theorem dX2_init_74 : decode cX2_init 74 = .ok (.putfield 34, 3) := by decide +kernel
theorem dX2_init_77 : decode cX2_init 77 = .ok (.aload_n 0, 1) := by decide +kernel
theorem dX2_init_78 : decode cX2_init 78 = .ok (.sipush 6000, 3) := by decide +kernel
theorem dX2_init_81 : decode cX2_init 81 = .ok (.newarray .byte, 2) := by decide +kernel
theorem dX2_init_83 : decode cX2_init 83 = .ok (.putfield 37, 3) := by decide +kernel
theorem dX2_init_86 : decode cX2_init 86 = .ok (.aload_n 0, 1) := by decide +kernel
theorem dX2_init_87 : decode cX2_init 87 = .ok (.bipush 10, 2) := by decide +kernel
theorem dX2_init_89 : decode cX2_init 89 = .ok (.newarray .int, 2) := by decide +kernel
theorem dX2_init_91 : decode cX2_init 91 = .ok (.putfield 41, 3) := by decide +kernel
theorem dX2_init_94 : decode cX2_init 94 = .ok (.aload_n 0, 1) := by decide +kernel
theorem dX2_init_95 : decode cX2_init 95 = .ok (.sipush 1800, 3) := by decide +kernel
theorem dX2_init_98 : decode cX2_init 98 = .ok (.newarray .byte, 2) := by decide +kernel
theorem dX2_init_100 : decode cX2_init 100 = .ok (.putfield 44, 3) := by decide +kernel
theorem dX2_init_103 : decode cX2_init 103 = .ok (.aload_n 0, 1) := by decide +kernel
theorem dX2_init_104 : decode cX2_init 104 = .ok (.sipush 1800, 3) := by decide +kernel
theorem dX2_init_107 : decode cX2_init 107 = .ok (.newarray .boolean, 2) := by decide +kernel
theorem dX2_init_109 : decode cX2_init 109 = .ok (.putfield 47, 3) := by decide +kernel
theorem dX2_init_112 : decode cX2_init 112 = .ok (.aload_n 0, 1) := by decide +kernel
theorem dX2_init_113 : decode cX2_init 113 = .ok (.bipush 24, 2) := by decide +kernel
theorem dX2_init_115 : decode cX2_init 115 = .ok (.newarray .int, 2) := by decide +kernel
theorem dX2_init_117 : decode cX2_init 117 = .ok (.dup, 1) := by decide +kernel
theorem dX2_init_118 : decode cX2_init 118 = .ok (.iconst 0, 1) := by decide +kernel
theorem dX2_init_119 : decode cX2_init 119 = .ok (.iconst 0, 1) := by decide +kernel
theorem dX2_init_120 : decode cX2_init 120 = .ok (.iastore, 1) := by decide +kernel
theorem dX2_init_121 : decode cX2_init 121 = .ok (.dup, 1) := by decide +kernel
theorem dX2_init_122 : decode cX2_init 122 = .ok (.iconst 1, 1) := by decide +kernel
theorem dX2_init_123 : decode cX2_init 123 = .ok (.iconst 0, 1) := by decide +kernel
theorem dX2_init_124 : decode cX2_init 124 = .ok (.iastore, 1) := by decide +kernel
theorem dX2_init_125 : decode cX2_init 125 = .ok (.dup, 1) := by decide +kernel
theorem dX2_init_126 : decode cX2_init 126 = .ok (.iconst 2, 1) := by decide +kernel
theorem dX2_init_127 : decode cX2_init 127 = .ok (.iconst 0, 1) := by decide +kernel
theorem dX2_init_128 : decode cX2_init 128 = .ok (.iastore, 1) := by decide +kernel
theorem dX2_init_129 : decode cX2_init 129 = .ok (.dup, 1) := by decide +kernel
theorem dX2_init_130 : decode cX2_init 130 = .ok (.iconst 3, 1) := by decide +kernel
theorem dX2_init_131 : decode cX2_init 131 = .ok (.iconst 0, 1) := by decide +kernel
theorem dX2_init_132 : decode cX2_init 132 = .ok (.iastore, 1) := by decide +kernel
theorem dX2_init_133 : decode cX2_init 133 = .ok (.dup, 1) := by decide +kernel
theorem dX2_init_134 : decode cX2_init 134 = .ok (.iconst 4, 1) := by decide +kernel
theorem dX2_init_135 : decode cX2_init 135 = .ok (.iconst 2, 1) := by decide +kernel
theorem dX2_init_136 : decode cX2_init 136 = .ok (.iastore, 1) := by decide +kernel
theorem dX2_init_137 : decode cX2_init 137 = .ok (.dup, 1) := by decide +kernel
theorem dX2_init_138 : decode cX2_init 138 = .ok (.iconst 5, 1) := by decide +kernel
theorem dX2_init_139 : decode cX2_init 139 = .ok (.iconst 1, 1) := by decide +kernel
theorem dX2_init_140 : decode cX2_init 140 = .ok (.iastore, 1) := by decide +kernel
theorem dX2_init_141 : decode cX2_init 141 = .ok (.dup, 1) := by decide +kernel
theorem dX2_init_142 : decode cX2_init 142 = .ok (.bipush 6, 2) := by decide +kernel
theorem dX2_init_144 : decode cX2_init 144 = .ok (.iconst 0, 1) := by decide +kernel
theorem dX2_init_145 : decode cX2_init 145 = .ok (.iastore, 1) := by decide +kernel
theorem dX2_init_146 : decode cX2_init 146 = .ok (.dup, 1) := by decide +kernel
theorem dX2_init_147 : decode cX2_init 147 = .ok (.bipush 7, 2) := by decide +kernel
theorem dX2_init_149 : decode cX2_init 149 = .ok (.iconst 0, 1) := by decide +kernel
theorem dX2_init_150 : decode cX2_init 150 = .ok (.iastore, 1) := by decide +kernel
theorem dX2_init_151 : decode cX2_init 151 = .ok (.dup, 1) := by decide +kernel
theorem dX2_init_152 : decode cX2_init 152 = .ok (.bipush 8, 2) := by decide +kernel
theorem dX2_init_154 : decode cX2_init 154 = .ok (.iconst 4, 1) := by decide +kernel
theorem dX2_init_155 : decode cX2_init 155 = .ok (.iastore, 1) := by decide +kernel
theorem dX2_init_156 : decode cX2_init 156 = .ok (.dup, 1) := by decide +kernel
theorem dX2_init_157 : decode cX2_init 157 = .ok (.bipush 9, 2) := by decide +kernel
theorem dX2_init_159 : decode cX2_init 159 = .ok (.iconst 3, 1) := by decide +kernel
theorem dX2_init_160 : decode cX2_init 160 = .ok (.iastore, 1) := by decide +kernel
theorem dX2_init_161 : decode cX2_init 161 = .ok (.dup, 1) := by decide +kernel
theorem dX2_init_162 : decode cX2_init 162 = .ok (.bipush 10, 2) := by decide +kernel
theorem dX2_init_164 : decode cX2_init 164 = .ok (.iconst 2, 1) := by decide +kernel
theorem dX2_init_165 : decode cX2_init 165 = .ok (.iastore, 1) := by decide +kernel
theorem dX2_init_166 : decode cX2_init 166 = .ok (.dup, 1) := by decide +kernel
theorem dX2_init_167 : decode cX2_init 167 = .ok (.bipush 11, 2) := by decide +kernel
theorem dX2_init_169 : decode cX2_init 169 = .ok (.iconst 1, 1) := by decide +kernel
theorem dX2_init_170 : decode cX2_init 170 = .ok (.iastore, 1) := by decide +kernel
theorem dX2_init_171 : decode cX2_init 171 = .ok (.dup, 1) := by decide +kernel
theorem dX2_init_172 : decode cX2_init 172 = .ok (.bipush 12, 2) := by decide +kernel
theorem dX2_init_174 : decode cX2_init 174 = .ok (.bipush 8, 2) := by decide +kernel
theorem dX2_init_176 : decode cX2_init 176 = .ok (.iastore, 1) := by decide +kernel
theorem dX2_init_177 : decode cX2_init 177 = .ok (.dup, 1) := by decide +kernel
theorem dX2_init_178 : decode cX2_init 178 = .ok (.bipush 13, 2) := by decide +kernel
theorem dX2_init_180 : decode cX2_init 180 = .ok (.bipush 6, 2) := by decide +kernel
theorem dX2_init_182 : decode cX2_init 182 = .ok (.iastore, 1) := by decide +kernel
theorem dX2_init_183 : decode cX2_init 183 = .ok (.dup, 1) := by decide +kernel
theorem dX2_init_184 : decode cX2_init 184 = .ok (.bipush 14, 2) := by decide +kernel
theorem dX2_init_186 : decode cX2_init 186 = .ok (.iconst 4, 1) := by decide +kernel
theorem dX2_init_187 : decode cX2_init 187 = .ok (.iastore, 1) := by decide +kernel
theorem dX2_init_188 : decode cX2_init 188 = .ok (.dup, 1) := by decide +kernel
theorem dX2_init_189 : decode cX2_init 189 = .ok (.bipush 15, 2) := by decide +kernel
theorem dX2_init_191 : decode cX2_init 191 = .ok (.iconst 2, 1) := by decide +kernel
theorem dX2_init_192 : decode cX2_init 192 = .ok (.iastore, 1) := by decide +kernel
theorem dX2_init_193 : decode cX2_init 193 = .ok (.dup, 1) := by decide +kernel
theorem dX2_init_194 : decode cX2_init 194 = .ok (.bipush 16, 2) := by decide +kernel
theorem dX2_init_196 : decode cX2_init 196 = .ok (.bipush 12, 2) := by decide +kernel
theorem dX2_init_198 : decode cX2_init 198 = .ok (.iastore, 1) := by decide +kernel
theorem dX2_init_199 : decode cX2_init 199 = .ok (.dup, 1) := by decide +kernel
theorem dX2_init_200 : decode cX2_init 200 = .ok (.bipush 17, 2) := by decide +kernel
theorem dX2_init_202 : decode cX2_init 202 = .ok (.bipush 9, 2) := by decide +kernel
theorem dX2_init_204 : decode cX2_init 204 = .ok (.iastore, 1) := by decide +kernel
theorem dX2_init_205 : decode cX2_init 205 = .ok (.dup, 1) := by decide +kernel
theorem dX2_init_206 : decode cX2_init 206 = .ok (.bipush 18, 2) := by decide +kernel
theorem dX2_init_208 : decode cX2_init 208 = .ok (.iconst 5, 1) := by decide +kernel
theorem dX2_init_209 : decode cX2_init 209 = .ok (.iastore, 1) := by decide +kernel
theorem dX2_init_210 : decode cX2_init 210 = .ok (.dup, 1) := by decide +kernel
theorem dX2_init_211 : decode cX2_init 211 = .ok (.bipush 19, 2) := by decide +kernel
theorem dX2_init_213 : decode cX2_init 213 = .ok (.iconst 2, 1) := by decide +kernel
theorem dX2_init_214 : decode cX2_init 214 = .ok (.iastore, 1) := by decide +kernel
theorem dX2_init_215 : decode cX2_init 215 = .ok (.dup, 1) := by decide +kernel
theorem dX2_init_216 : decode cX2_init 216 = .ok (.bipush 20, 2) := by decide +kernel
theorem dX2_init_218 : decode cX2_init 218 = .ok (.bipush 6, 2) := by decide +kernel
theorem dX2_init_220 : decode cX2_init 220 = .ok (.iastore, 1) := by decide +kernel
theorem dX2_init_221 : decode cX2_init 221 = .ok (.dup, 1) := by decide +kernel
theorem dX2_init_222 : decode cX2_init 222 = .ok (.bipush 21, 2) := by decide +kernel
theorem dX2_init_224 : decode cX2_init 224 = .ok (.iconst 4, 1) := by decide +kernel
theorem dX2_init_225 : decode cX2_init 225 = .ok (.iastore, 1) := by decide +kernel
theorem dX2_init_226 : decode cX2_init 226 = .ok (.dup, 1) := by decide +kernel
theorem dX2_init_227 : decode cX2_init 227 = .ok (.bipush 22, 2) := by decide +kernel
theorem dX2_init_229 : decode cX2_init 229 = .ok (.iconst 2, 1) := by decide +kernel
theorem dX2_init_230 : decode cX2_init 230 = .ok (.iastore, 1) := by decide +kernel
theorem dX2_init_231 : decode cX2_init 231 = .ok (.dup, 1) := by decide +kernel
theorem dX2_init_232 : decode cX2_init 232 = .ok (.bipush 23, 2) := by decide +kernel
theorem dX2_init_234 : decode cX2_init 234 = .ok (.iconst 1, 1) := by decide +kernel
theorem dX2_init_235 : decode cX2_init 235 = .ok (.iastore, 1) := by decide +kernel
theorem dX2_init_236 : decode cX2_init 236 = .ok (.putfield 51, 3) := by decide +kernel
theorem dX2_init_239 : decode cX2_init 239 = .ok (.aload_n 0, 1) := by decide +kernel
theorem dX2_init_240 : decode cX2_init 240 = .ok (.bipush 100, 2) := by decide +kernel
theorem dX2_init_242 : decode cX2_init 242 = .ok (.newarray .int, 2) := by decide +kernel
theorem dX2_init_244 : decode cX2_init 244 = .ok (.putfield 54, 3) := by decide +kernel
theorem dX2_init_247 : decode cX2_init 247 = .ok (.aload_n 0, 1) := by decide +kernel
theorem dX2_init_248 : decode cX2_init 248 = .ok (.bipush 100, 2) := by decide +kernel
theorem dX2_init_250 : decode cX2_init 250 = .ok (.newarray .int, 2) := by decide +kernel
theorem dX2_init_252 : decode cX2_init 252 = .ok (.putfield 57, 3) := by decide +kernel
theorem dX2_init_255 : decode cX2_init 255 = .ok (.aload_n 0, 1) := by decide +kernel
theorem dX2_init_256 : decode cX2_init 256 = .ok (.bipush 100, 2) := by decide +kernel
theorem dX2_init_258 : decode cX2_init 258 = .ok (.newarray .int, 2) := by decide +kernel
theorem dX2_init_260 : decode cX2_init 260 = .ok (.putfield 60, 3) := by decide +kernel
theorem dX2_init_263 : decode cX2_init 263 = .ok (.aload_n 0, 1) := by decide +kernel
theorem dX2_init_264 : decode cX2_init 264 = .ok (.bipush 10, 2) := by decide +kernel
theorem dX2_init_266 : decode cX2_init 266 = .ok (.newarray .int, 2) := by decide +kernel
theorem dX2_init_268 : decode cX2_init 268 = .ok (.putfield 63, 3) := by decide +kernel
theorem dX2_init_271 : decode cX2_init 271 = .ok (.aload_n 0, 1) := by decide +kernel
theorem dX2_init_272 : decode cX2_init 272 = .ok (.bipush 11, 2) := by decide +kernel
theorem dX2_init_274 : decode cX2_init 274 = .ok (.newarray .int, 2) := by decide +kernel
theorem dX2_init_276 : decode cX2_init 276 = .ok (.putfield 66, 3) := by decide +kernel
theorem dX2_init_279 : decode cX2_init 279 = .ok (.aload_n 0, 1) := by decide +kernel
theorem dX2_init_280 : decode cX2_init 280 = .ok (.bipush 110, 2) := by decide +kernel
theorem dX2_init_282 : decode cX2_init 282 = .ok (.newarray .int, 2) := by decide +kernel
theorem dX2_init_284 : decode cX2_init 284 = .ok (.putfield 69, 3) := by decide +kernel
theorem dX2_init_287 : decode cX2_init 287 = .ok (.aload_n 0, 1) := by decide +kernel
theorem dX2_init_288 : decode cX2_init 288 = .ok (.bipush 110, 2) := by decide +kernel
theorem dX2_init_290 : decode cX2_init 290 = .ok (.newarray .int, 2) := by decide +kernel
theorem dX2_init_292 : decode cX2_init 292 = .ok (.putfield 72, 3) := by decide +kernel
theorem dX2_init_295 : decode cX2_init 295 = .ok (.aload_n 0, 1) := by decide +kernel
theorem dX2_init_296 : decode cX2_init 296 = .ok (.bipush 110, 2) := by decide +kernel
theorem dX2_init_298 : decode cX2_init 298 = .ok (.newarray .int, 2) := by decide +kernel
theorem dX2_init_300 : decode cX2_init 300 = .ok (.putfield 75, 3) := by decide +kernel
theorem dX2_init_303 : decode cX2_init 303 = .ok (.aload_n 0, 1) := by decide +kernel
theorem dX2_init_304 : decode cX2_init 304 = .ok (.sipush 330, 3) := by decide +kernel
theorem dX2_init_307 : decode cX2_init 307 = .ok (.newarray .int, 2) := by decide +kernel
theorem dX2_init_309 : decode cX2_init 309 = .ok (.putfield 78, 3) := by decide +kernel
theorem dX2_init_312 : decode cX2_init 312 = .ok (.aload_n 0, 1) := by decide +kernel
theorem dX2_init_313 : decode cX2_init 313 = .ok (.sipush 330, 3) := by decide +kernel
theorem dX2_init_316 : decode cX2_init 316 = .ok (.newarray .int, 2) := by decide +kernel
theorem dX2_init_318 : decode cX2_init 318 = .ok (.putfield 81, 3) := by decide +kernel
theorem dX2_init_321 : decode cX2_init 321 = .ok (.aload_n 0, 1) := by decide +kernel
theorem dX2_init_322 : decode cX2_init 322 = .ok (.sipush 330, 3) := by decide +kernel
theorem dX2_init_325 : decode cX2_init 325 = .ok (.newarray .int, 2) := by decide +kernel
theorem dX2_init_327 : decode cX2_init 327 = .ok (.putfield 84, 3) := by decide +kernel
theorem dX2_init_330 : decode cX2_init 330 = .ok (.aload_n 0, 1) := by decide +kernel
theorem dX2_init_331 : decode cX2_init 331 = .ok (.sipush 300, 3) := by decide +kernel
theorem dX2_init_334 : decode cX2_init 334 = .ok (.newarray .byte, 2) := by decide +kernel
theorem dX2_init_336 : decode cX2_init 336 = .ok (.putfield 87, 3) := by decide +kernel
theorem dX2_init_339 : decode cX2_init 339 = .ok (.aload_n 0, 1) := by decide +kernel
theorem dX2_init_340 : decode cX2_init 340 = .ok (.iconst (-1), 1) := by decide +kernel
theorem dX2_init_341 : decode cX2_init 341 = .ok (.putfield 90, 3) := by decide +kernel
theorem dX2_init_344 : decode cX2_init 344 = .ok (.aload_n 0, 1) := by decide +kernel
theorem dX2_init_345 : decode cX2_init 345 = .ok (.sipush 1200, 3) := by decide +kernel
theorem dX2_init_348 : decode cX2_init 348 = .ok (.newarray .int, 2) := by decide +kernel
theorem dX2_init_350 : decode cX2_init 350 = .ok (.putfield 94, 3) := by decide +kernel
theorem dX2_init_353 : decode cX2_init 353 = .ok (.aload_n 0, 1) := by decide +kernel
theorem dX2_init_354 : decode cX2_init 354 = .ok (.sipush 1000, 3) := by decide +kernel
theorem dX2_init_357 : decode cX2_init 357 = .ok (.putfield 97, 3) := by decide +kernel
theorem dX2_init_360 : decode cX2_init 360 = .ok (.aload_n 0, 1) := by decide +kernel
theorem dX2_init_361 : decode cX2_init 361 = .ok (.bipush 6, 2) := by decide +kernel
theorem dX2_init_363 : decode cX2_init 363 = .ok (.newarray .int, 2) := by decide +kernel
theorem dX2_init_365 : decode cX2_init 365 = .ok (.putfield 100, 3) := by decide +kernel
theorem dX2_init_368 : decode cX2_init 368 = .ok (.aload_n 0, 1) := by decide +kernel
theorem dX2_init_369 : decode cX2_init 369 = .ok (.bipush 6, 2) := by decide +kernel
theorem dX2_init_371 : decode cX2_init 371 = .ok (.newarray .int, 2) := by decide +kernel
theorem dX2_init_373 : decode cX2_init 373 = .ok (.putfield 103, 3) := by decide +kernel
theorem dX2_init_376 : decode cX2_init 376 = .ok (.aload_n 0, 1) := by decide +kernel
theorem dX2_init_377 : decode cX2_init 377 = .ok (.bipush 6, 2) := by decide +kernel
theorem dX2_init_379 : decode cX2_init 379 = .ok (.newarray .int, 2) := by decide +kernel
theorem dX2_init_381 : decode cX2_init 381 = .ok (.putfield 106, 3) := by decide +kernel
theorem dX2_init_384 : decode cX2_init 384 = .ok (.aload_n 0, 1) := by decide +kernel
theorem dX2_init_385 : decode cX2_init 385 = .ok (.bipush 6, 2) := by decide +kernel
theorem dX2_init_387 : decode cX2_init 387 = .ok (.newarray .int, 2) := by decide +kernel
theorem dX2_init_389 : decode cX2_init 389 = .ok (.putfield 109, 3) := by decide +kernel
theorem dX2_init_392 : decode cX2_init 392 = .ok (.aload_n 0, 1) := by decide +kernel
theorem dX2_init_393 : decode cX2_init 393 = .ok (.bipush 60, 2) := by decide +kernel
theorem dX2_init_395 : decode cX2_init 395 = .ok (.newarray .boolean, 2) := by decide +kernel
theorem dX2_init_397 : decode cX2_init 397 = .ok (.putfield 112, 3) := by decide +kernel
theorem dX2_init_400 : decode cX2_init 400 = .ok (.aload_n 0, 1) := by decide +kernel
theorem dX2_init_401 : decode cX2_init 401 = .ok (.bipush 6, 2) := by decide +kernel
theorem dX2_init_403 : decode cX2_init 403 = .ok (.newarray .int, 2) := by decide +kernel
theorem dX2_init_405 : decode cX2_init 405 = .ok (.putfield 115, 3) := by decide +kernel
theorem dX2_init_408 : decode cX2_init 408 = .ok (.aload_n 0, 1) := by decide +kernel
theorem dX2_init_409 : decode cX2_init 409 = .ok (.bipush 6, 2) := by decide +kernel
theorem dX2_init_411 : decode cX2_init 411 = .ok (.newarray .int, 2) := by decide +kernel
theorem dX2_init_413 : decode cX2_init 413 = .ok (.putfield 118, 3) := by decide +kernel
theorem dX2_init_416 : decode cX2_init 416 = .ok (.return_, 1) := by decide +kernel
theorem dX2_thrown_0 : decode cX2_thrown 0 = .ok (.aload_n 0, 1) := by decide +kernel
theorem dX2_thrown_1 : decode cX2_thrown 1 = .ok (.getfield 121, 3) := by decide +kernel
theorem dX2_thrown_4 : decode cX2_thrown 4 = .ok (.ireturn, 1) := by decide +kernel
theorem dX2_lot_0 : decode cX2_lot 0 = .ok (.aload_n 0, 1) := by decide +kernel
theorem dX2_lot_1 : decode cX2_lot 1 = .ok (.iconst 0, 1) := by decide +kernel
theorem dX2_lot_2 : decode cX2_lot 2 = .ok (.putfield 121, 3) := by decide +kernel
theorem dX2_lot_5 : decode cX2_lot 5 = .ok (.aload_n 0, 1) := by decide +kernel
theorem dX2_lot_6 : decode cX2_lot 6 = .ok (.getfield 124, 3) := by decide +kernel
theorem dX2_lot_9 : decode cX2_lot 9 = .ok (.bipush 20, 2) := by decide +kernel
theorem dX2_lot_11 : decode cX2_lot 11 = .ok (.if_icmp .eq 13, 3) := by decide +kernel
theorem dX2_lot_14 : decode cX2_lot 14 = .ok (.iload_n 1, 1) := by decide +kernel
theorem dX2_lot_15 : decode cX2_lot 15 = .ok (.iconst 1, 1) := by decide +kernel
theorem dX2_lot_16 : decode cX2_lot 16 = .ok (.ldc 127, 2) := by decide +kernel
theorem dX2_lot_18 : decode cX2_lot 18 = .ok (.invokestatic 128, 3) := by decide +kernel
theorem dX2_lot_21 : decode cX2_lot 21 = .ok (.ifCond .ne 5, 3) := by decide +kernel
theorem dX2_lot_24 : decode cX2_lot 24 = .ok (.iconst (-1), 1) := by decide +kernel
theorem dX2_lot_25 : decode cX2_lot 25 = .ok (.ireturn, 1) := by decide +kernel
theorem dX2_lot_26 : decode cX2_lot 26 = .ok (.aload_n 0, 1) := by decide +kernel
theorem dX2_lot_27 : decode cX2_lot 27 = .ok (.getfield 7, 3) := by decide +kernel
theorem dX2_lot_30 : decode cX2_lot 30 = .ok (.aload_n 0, 1) := by decide +kernel
theorem dX2_lot_31 : decode cX2_lot 31 = .ok (.getfield 124, 3) := by decide +kernel
theorem dX2_lot_34 : decode cX2_lot 34 = .ok (.iload_n 1, 1) := by decide +kernel
theorem dX2_lot_35 : decode cX2_lot 35 = .ok (.iastore, 1) := by decide +kernel
theorem dX2_lot_36 : decode cX2_lot 36 = .ok (.aload_n 0, 1) := by decide +kernel
theorem dX2_lot_37 : decode cX2_lot 37 = .ok (.dup, 1) := by decide +kernel
theorem dX2_lot_38 : decode cX2_lot 38 = .ok (.getfield 124, 3) := by decide +kernel
theorem dX2_lot_41 : decode cX2_lot 41 = .ok (.iconst 1, 1) := by decide +kernel
theorem dX2_lot_42 : decode cX2_lot 42 = .ok (.iadd, 1) := by decide +kernel
theorem dX2_lot_43 : decode cX2_lot 43 = .ok (.putfield 124, 3) := by decide +kernel
theorem dX2_lot_46 : decode cX2_lot 46 = .ok (.aload_n 0, 1) := by decide +kernel
theorem dX2_lot_47 : decode cX2_lot 47 = .ok (.getfield 124, 3) := by decide +kernel
theorem dX2_lot_50 : decode cX2_lot 50 = .ok (.iconst 1, 1) := by decide +kernel
theorem dX2_lot_51 : decode cX2_lot 51 = .ok (.isub, 1) := by decide +kernel
theorem dX2_lot_52 : decode cX2_lot 52 = .ok (.ireturn, 1) := by decide +kernel
theorem dX2_within_0 : decode cX2_within 0 = .ok (.iload_n 0, 1) := by decide +kernel
theorem dX2_within_1 : decode cX2_within 1 = .ok (.iload_n 1, 1) := by decide +kernel
theorem dX2_within_2 : decode cX2_within 2 = .ok (.if_icmp .lt 12, 3) := by decide +kernel
theorem dX2_within_5 : decode cX2_within 5 = .ok (.iload_n 0, 1) := by decide +kernel
theorem dX2_within_6 : decode cX2_within 6 = .ok (.iload_n 2, 1) := by decide +kernel
theorem dX2_within_7 : decode cX2_within 7 = .ok (.if_icmp .gt 7, 3) := by decide +kernel
theorem dX2_within_10 : decode cX2_within 10 = .ok (.iconst 1, 1) := by decide +kernel
theorem dX2_within_11 : decode cX2_within 11 = .ok (.goto 4, 3) := by decide +kernel
theorem dX2_within_14 : decode cX2_within 14 = .ok (.iconst 0, 1) := by decide +kernel
theorem dX2_within_15 : decode cX2_within 15 = .ok (.ireturn, 1) := by decide +kernel
theorem dX2_crock_0 : decode cX2_crock 0 = .ok (.aload_n 0, 1) := by decide +kernel
theorem dX2_crock_1 : decode cX2_crock 1 = .ok (.iconst 0, 1) := by decide +kernel
theorem dX2_crock_2 : decode cX2_crock 2 = .ok (.putfield 121, 3) := by decide +kernel
theorem dX2_crock_5 : decode cX2_crock 5 = .ok (.aload_n 0, 1) := by decide +kernel
theorem dX2_crock_6 : decode cX2_crock 6 = .ok (.getfield 132, 3) := by decide +kernel
theorem dX2_crock_9 : decode cX2_crock 9 = .ok (.bipush 10, 2) := by decide +kernel
theorem dX2_crock_11 : decode cX2_crock 11 = .ok (.if_icmp .eq 31, 3) := by decide +kernel
theorem dX2_crock_14 : decode cX2_crock 14 = .ok (.iload_n 1, 1) := by decide +kernel
theorem dX2_crock_15 : decode cX2_crock 15 = .ok (.iconst 0, 1) := by decide +kernel
theorem dX2_crock_16 : decode cX2_crock 16 = .ok (.bipush 11, 2) := by decide +kernel
theorem dX2_crock_18 : decode cX2_crock 18 = .ok (.invokestatic 128, 3) := by decide +kernel
theorem dX2_crock_21 : decode cX2_crock 21 = .ok (.ifCond .eq 21, 3) := by decide +kernel
theorem dX2_crock_24 : decode cX2_crock 24 = .ok (.iload_n 2, 1) := by decide +kernel
theorem dX2_crock_25 : decode cX2_crock 25 = .ok (.iconst 0, 1) := by decide +kernel
theorem dX2_crock_26 : decode cX2_crock 26 = .ok (.bipush 60, 2) := by decide +kernel
theorem dX2_crock_28 : decode cX2_crock 28 = .ok (.invokestatic 128, 3) := by decide +kernel
theorem dX2_crock_31 : decode cX2_crock 31 = .ok (.ifCond .eq 11, 3) := by decide +kernel
theorem dX2_crock_34 : decode cX2_crock 34 = .ok (.aload_n 0, 1) := by decide +kernel
theorem dX2_crock_35 : decode cX2_crock 35 = .ok (.iload_n 1, 1) := by decide +kernel
theorem dX2_crock_36 : decode cX2_crock 36 = .ok (.invokevirtual 139, 3) := by decide +kernel
theorem dX2_crock_39 : decode cX2_crock 39 = .ok (.ifCond .ne 5, 3) := by decide +kernel
theorem dX2_crock_42 : decode cX2_crock 42 = .ok (.iconst (-1), 1) := by decide +kernel
theorem dX2_crock_43 : decode cX2_crock 43 = .ok (.ireturn, 1) := by decide +kernel
theorem dX2_crock_44 : decode cX2_crock 44 = .ok (.aload_n 0, 1) := by decide +kernel
theorem dX2_crock_45 : decode cX2_crock 45 = .ok (.getfield 16, 3) := by decide +kernel
theorem dX2_crock_48 : decode cX2_crock 48 = .ok (.aload_n 0, 1) := by decide +kernel
theorem dX2_crock_49 : decode cX2_crock 49 = .ok (.getfield 132, 3) := by decide +kernel
theorem dX2_crock_52 : decode cX2_crock 52 = .ok (.iload_n 1, 1) := by decide +kernel
theorem dX2_crock_53 : decode cX2_crock 53 = .ok (.iastore, 1) := by decide +kernel
theorem dX2_crock_54 : decode cX2_crock 54 = .ok (.aload_n 0, 1) := by decide +kernel
theorem dX2_crock_55 : decode cX2_crock 55 = .ok (.getfield 22, 3) := by decide +kernel
theorem dX2_crock_58 : decode cX2_crock 58 = .ok (.aload_n 0, 1) := by decide +kernel
theorem dX2_crock_59 : decode cX2_crock 59 = .ok (.getfield 132, 3) := by decide +kernel
theorem dX2_crock_62 : decode cX2_crock 62 = .ok (.iload_n 2, 1) := by decide +kernel
theorem dX2_crock_63 : decode cX2_crock 63 = .ok (.iastore, 1) := by decide +kernel
theorem dX2_crock_64 : decode cX2_crock 64 = .ok (.aload_n 0, 1) := by decide +kernel
theorem dX2_crock_65 : decode cX2_crock 65 = .ok (.getfield 28, 3) := by decide +kernel
theorem dX2_crock_68 : decode cX2_crock 68 = .ok (.aload_n 0, 1) := by decide +kernel
theorem dX2_crock_69 : decode cX2_crock 69 = .ok (.getfield 132, 3) := by decide +kernel
theorem dX2_crock_72 : decode cX2_crock 72 = .ok (.aload_n 0, 1) := by decide +kernel
theorem dX2_crock_73 : decode cX2_crock 73 = .ok (.getfield 142, 3) := by decide +kernel
theorem dX2_crock_76 : decode cX2_crock 76 = .ok (.iastore, 1) := by decide +kernel
theorem dX2_crock_77 : decode cX2_crock 77 = .ok (.aload_n 0, 1) := by decide +kernel
theorem dX2_crock_78 : decode cX2_crock 78 = .ok (.getfield 41, 3) := by decide +kernel
theorem dX2_crock_81 : decode cX2_crock 81 = .ok (.aload_n 0, 1) := by decide +kernel
theorem dX2_crock_82 : decode cX2_crock 82 = .ok (.getfield 132, 3) := by decide +kernel
theorem dX2_crock_85 : decode cX2_crock 85 = .ok (.iconst (-1), 1) := by decide +kernel
theorem dX2_crock_86 : decode cX2_crock 86 = .ok (.iastore, 1) := by decide +kernel
theorem dX2_crock_87 : decode cX2_crock 87 = .ok (.aload_n 0, 1) := by decide +kernel
theorem dX2_crock_88 : decode cX2_crock 88 = .ok (.dup, 1) := by decide +kernel
theorem dX2_crock_89 : decode cX2_crock 89 = .ok (.getfield 132, 3) := by decide +kernel
theorem dX2_crock_92 : decode cX2_crock 92 = .ok (.iconst 1, 1) := by decide +kernel
theorem dX2_crock_93 : decode cX2_crock 93 = .ok (.iadd, 1) := by decide +kernel
theorem dX2_crock_94 : decode cX2_crock 94 = .ok (.putfield 132, 3) := by decide +kernel
theorem dX2_crock_97 : decode cX2_crock 97 = .ok (.aload_n 0, 1) := by decide +kernel
theorem dX2_crock_98 : decode cX2_crock 98 = .ok (.getfield 132, 3) := by decide +kernel
theorem dX2_crock_101 : decode cX2_crock 101 = .ok (.iconst 1, 1) := by decide +kernel
theorem dX2_crock_102 : decode cX2_crock 102 = .ok (.isub, 1) := by decide +kernel
theorem dX2_crock_103 : decode cX2_crock 103 = .ok (.ireturn, 1) := by decide +kernel
theorem dX2_isFree_0 : decode cX2_isFree 0 = .ok (.iconst 0, 1) := by decide +kernel
theorem dX2_isFree_1 : decode cX2_isFree 1 = .ok (.istore_n 2, 1) := by decide +kernel
theorem dX2_isFree_2 : decode cX2_isFree 2 = .ok (.iload_n 2, 1) := by decide +kernel
theorem dX2_isFree_3 : decode cX2_isFree 3 = .ok (.aload_n 0, 1) := by decide +kernel
theorem dX2_isFree_4 : decode cX2_isFree 4 = .ok (.getfield 132, 3) := by decide +kernel
theorem dX2_isFree_7 : decode cX2_isFree 7 = .ok (.if_icmp .ge 31, 3) := by decide +kernel
theorem dX2_isFree_10 : decode cX2_isFree 10 = .ok (.aload_n 0, 1) := by decide +kernel
theorem dX2_isFree_11 : decode cX2_isFree 11 = .ok (.getfield 19, 3) := by decide +kernel
theorem dX2_isFree_14 : decode cX2_isFree 14 = .ok (.iload_n 2, 1) := by decide +kernel
theorem dX2_isFree_15 : decode cX2_isFree 15 = .ok (.iaload, 1) := by decide +kernel
theorem dX2_isFree_16 : decode cX2_isFree 16 = .ok (.iconst 1, 1) := by decide +kernel
theorem dX2_isFree_17 : decode cX2_isFree 17 = .ok (.if_icmp .gt 15, 3) := by decide +kernel
theorem dX2_isFree_20 : decode cX2_isFree 20 = .ok (.aload_n 0, 1) := by decide +kernel
theorem dX2_isFree_21 : decode cX2_isFree 21 = .ok (.getfield 16, 3) := by decide +kernel
theorem dX2_isFree_24 : decode cX2_isFree 24 = .ok (.iload_n 2, 1) := by decide +kernel
theorem dX2_isFree_25 : decode cX2_isFree 25 = .ok (.iaload, 1) := by decide +kernel
theorem dX2_isFree_26 : decode cX2_isFree 26 = .ok (.iload_n 1, 1) := by decide +kernel
theorem dX2_isFree_27 : decode cX2_isFree 27 = .ok (.if_icmp .ne 5, 3) := by decide +kernel
theorem dX2_isFree_30 : decode cX2_isFree 30 = .ok (.iconst 0, 1) := by decide +kernel
theorem dX2_isFree_31 : decode cX2_isFree 31 = .ok (.ireturn, 1) := by decide +kernel
theorem dX2_isFree_32 : decode cX2_isFree 32 = .ok (.iinc 2 1, 3) := by decide +kernel
theorem dX2_isFree_35 : decode cX2_isFree 35 = .ok (.goto (-33), 3) := by decide +kernel
theorem dX2_isFree_38 : decode cX2_isFree 38 = .ok (.iconst 1, 1) := by decide +kernel
theorem dX2_isFree_39 : decode cX2_isFree 39 = .ok (.ireturn, 1) := by decide +kernel
theorem dX2_put_0 : decode cX2_put 0 = .ok (.aload_n 0, 1) := by decide +kernel
theorem dX2_put_1 : decode cX2_put 1 = .ok (.iconst 0, 1) := by decide +kernel
theorem dX2_put_2 : decode cX2_put 2 = .ok (.putfield 121, 3) := by decide +kernel
theorem dX2_put_5 : decode cX2_put 5 = .ok (.aload_n 0, 1) := by decide +kernel
theorem dX2_put_6 : decode cX2_put 6 = .ok (.iload_n 1, 1) := by decide +kernel
theorem dX2_put_7 : decode cX2_put 7 = .ok (.invokevirtual 145, 3) := by decide +kernel
theorem dX2_put_10 : decode cX2_put 10 = .ok (.ifCond .eq 32, 3) := by decide +kernel
theorem dX2_put_13 : decode cX2_put 13 = .ok (.iload_n 2, 1) := by decide +kernel
theorem dX2_put_14 : decode cX2_put 14 = .ok (.iconst 0, 1) := by decide +kernel
theorem dX2_put_15 : decode cX2_put 15 = .ok (.aload_n 0, 1) := by decide +kernel
theorem dX2_put_16 : decode cX2_put 16 = .ok (.getfield 124, 3) := by decide +kernel
theorem dX2_put_19 : decode cX2_put 19 = .ok (.iconst 1, 1) := by decide +kernel
theorem dX2_put_20 : decode cX2_put 20 = .ok (.isub, 1) := by decide +kernel
theorem dX2_put_21 : decode cX2_put 21 = .ok (.invokestatic 128, 3) := by decide +kernel
theorem dX2_put_24 : decode cX2_put 24 = .ok (.ifCond .eq 18, 3) := by decide +kernel
theorem dX2_put_27 : decode cX2_put 27 = .ok (.iload_n 3, 1) := by decide +kernel
theorem dX2_put_28 : decode cX2_put 28 = .ok (.iconst 1, 1) := by decide +kernel
theorem dX2_put_29 : decode cX2_put 29 = .ok (.if_icmp .lt 13, 3) := by decide +kernel
theorem dX2_put_32 : decode cX2_put 32 = .ok (.iload_n 3, 1) := by decide +kernel
theorem dX2_put_33 : decode cX2_put 33 = .ok (.aload_n 0, 1) := by decide +kernel
theorem dX2_put_34 : decode cX2_put 34 = .ok (.getfield 7, 3) := by decide +kernel
theorem dX2_put_37 : decode cX2_put 37 = .ok (.iload_n 2, 1) := by decide +kernel
theorem dX2_put_38 : decode cX2_put 38 = .ok (.iaload, 1) := by decide +kernel
theorem dX2_put_39 : decode cX2_put 39 = .ok (.if_icmp .le 5, 3) := by decide +kernel
theorem dX2_put_42 : decode cX2_put 42 = .ok (.iconst (-1), 1) := by decide +kernel
theorem dX2_put_43 : decode cX2_put 43 = .ok (.ireturn, 1) := by decide +kernel
theorem dX2_put_44 : decode cX2_put 44 = .ok (.aload_n 0, 1) := by decide +kernel
theorem dX2_put_45 : decode cX2_put 45 = .ok (.getfield 7, 3) := by decide +kernel
theorem dX2_put_48 : decode cX2_put 48 = .ok (.iload_n 2, 1) := by decide +kernel
theorem dX2_put_49 : decode cX2_put 49 = .ok (.dup2, 1) := by decide +kernel
theorem dX2_put_50 : decode cX2_put 50 = .ok (.iaload, 1) := by decide +kernel
theorem dX2_put_51 : decode cX2_put 51 = .ok (.iload_n 3, 1) := by decide +kernel
theorem dX2_put_52 : decode cX2_put 52 = .ok (.isub, 1) := by decide +kernel
theorem dX2_put_53 : decode cX2_put 53 = .ok (.iastore, 1) := by decide +kernel
theorem dX2_put_54 : decode cX2_put 54 = .ok (.aload_n 0, 1) := by decide +kernel
theorem dX2_put_55 : decode cX2_put 55 = .ok (.getfield 13, 3) := by decide +kernel
theorem dX2_put_58 : decode cX2_put 58 = .ok (.bipush 20, 2) := by decide +kernel
theorem dX2_put_60 : decode cX2_put 60 = .ok (.iload_n 1, 1) := by decide +kernel
theorem dX2_put_61 : decode cX2_put 61 = .ok (.imul, 1) := by decide +kernel
theorem dX2_put_62 : decode cX2_put 62 = .ok (.iload_n 2, 1) := by decide +kernel
theorem dX2_put_63 : decode cX2_put 63 = .ok (.iadd, 1) := by decide +kernel
theorem dX2_put_64 : decode cX2_put 64 = .ok (.dup2, 1) := by decide +kernel
theorem dX2_put_65 : decode cX2_put 65 = .ok (.iaload, 1) := by decide +kernel
theorem dX2_put_66 : decode cX2_put 66 = .ok (.iload_n 3, 1) := by decide +kernel
theorem dX2_put_67 : decode cX2_put 67 = .ok (.iadd, 1) := by decide +kernel
theorem dX2_put_68 : decode cX2_put 68 = .ok (.iastore, 1) := by decide +kernel
theorem dX2_put_69 : decode cX2_put 69 = .ok (.aload_n 0, 1) := by decide +kernel
theorem dX2_put_70 : decode cX2_put 70 = .ok (.iload_n 1, 1) := by decide +kernel
theorem dX2_put_71 : decode cX2_put 71 = .ok (.invokevirtual 148, 3) := by decide +kernel
theorem dX2_put_74 : decode cX2_put 74 = .ok (.ireturn, 1) := by decide +kernel
theorem dX2_lives_0 : decode cX2_lives 0 = .ok (.aload_n 0, 1) := by decide +kernel
theorem dX2_lives_1 : decode cX2_lives 1 = .ok (.iload_n 1, 1) := by decide +kernel
theorem dX2_lives_2 : decode cX2_lives 2 = .ok (.invokevirtual 135, 3) := by decide +kernel
theorem dX2_lives_5 : decode cX2_lives 5 = .ok (.ifCond .eq 17, 3) := by decide +kernel
theorem dX2_lives_8 : decode cX2_lives 8 = .ok (.aload_n 0, 1) := by decide +kernel
theorem dX2_lives_9 : decode cX2_lives 9 = .ok (.getfield 19, 3) := by decide +kernel
theorem dX2_lives_12 : decode cX2_lives 12 = .ok (.iload_n 1, 1) := by decide +kernel
theorem dX2_lives_13 : decode cX2_lives 13 = .ok (.iaload, 1) := by decide +kernel
theorem dX2_lives_14 : decode cX2_lives 14 = .ok (.iconst 1, 1) := by decide +kernel
theorem dX2_lives_15 : decode cX2_lives 15 = .ok (.if_icmp .gt 7, 3) := by decide +kernel
theorem dX2_lives_18 : decode cX2_lives 18 = .ok (.iconst 1, 1) := by decide +kernel
theorem dX2_lives_19 : decode cX2_lives 19 = .ok (.goto 4, 3) := by decide +kernel
theorem dX2_lives_22 : decode cX2_lives 22 = .ok (.iconst 0, 1) := by decide +kernel
theorem dX2_lives_23 : decode cX2_lives 23 = .ok (.ireturn, 1) := by decide +kernel
theorem dX2_isCrock_0 : decode cX2_isCrock 0 = .ok (.iload_n 1, 1) := by decide +kernel
theorem dX2_isCrock_1 : decode cX2_isCrock 1 = .ok (.iconst 0, 1) := by decide +kernel
theorem dX2_isCrock_2 : decode cX2_isCrock 2 = .ok (.aload_n 0, 1) := by decide +kernel
theorem dX2_isCrock_3 : decode cX2_isCrock 3 = .ok (.getfield 132, 3) := by decide +kernel
theorem dX2_isCrock_6 : decode cX2_isCrock 6 = .ok (.iconst 1, 1) := by decide +kernel
theorem dX2_isCrock_7 : decode cX2_isCrock 7 = .ok (.isub, 1) := by decide +kernel
theorem dX2_isCrock_8 : decode cX2_isCrock 8 = .ok (.invokestatic 128, 3) := by decide +kernel
theorem dX2_isCrock_11 : decode cX2_isCrock 11 = .ok (.ireturn, 1) := by decide +kernel
theorem dX2_grams_0 : decode cX2_grams 0 = .ok (.iconst 0, 1) := by decide +kernel
theorem dX2_grams_1 : decode cX2_grams 1 = .ok (.istore_n 2, 1) := by decide +kernel
theorem dX2_grams_2 : decode cX2_grams 2 = .ok (.iconst 0, 1) := by decide +kernel
theorem dX2_grams_3 : decode cX2_grams 3 = .ok (.istore_n 3, 1) := by decide +kernel
theorem dX2_grams_4 : decode cX2_grams 4 = .ok (.iload_n 3, 1) := by decide +kernel
theorem dX2_grams_5 : decode cX2_grams 5 = .ok (.bipush 20, 2) := by decide +kernel
theorem dX2_grams_7 : decode cX2_grams 7 = .ok (.if_icmp .ge 23, 3) := by decide +kernel
theorem dX2_grams_10 : decode cX2_grams 10 = .ok (.iload_n 2, 1) := by decide +kernel
theorem dX2_grams_11 : decode cX2_grams 11 = .ok (.aload_n 0, 1) := by decide +kernel
theorem dX2_grams_12 : decode cX2_grams 12 = .ok (.getfield 13, 3) := by decide +kernel
theorem dX2_grams_15 : decode cX2_grams 15 = .ok (.bipush 20, 2) := by decide +kernel
theorem dX2_grams_17 : decode cX2_grams 17 = .ok (.iload_n 1, 1) := by decide +kernel
theorem dX2_grams_18 : decode cX2_grams 18 = .ok (.imul, 1) := by decide +kernel
theorem dX2_grams_19 : decode cX2_grams 19 = .ok (.iload_n 3, 1) := by decide +kernel
theorem dX2_grams_20 : decode cX2_grams 20 = .ok (.iadd, 1) := by decide +kernel
theorem dX2_grams_21 : decode cX2_grams 21 = .ok (.iaload, 1) := by decide +kernel
theorem dX2_grams_22 : decode cX2_grams 22 = .ok (.iadd, 1) := by decide +kernel
theorem dX2_grams_23 : decode cX2_grams 23 = .ok (.istore_n 2, 1) := by decide +kernel
theorem dX2_grams_24 : decode cX2_grams 24 = .ok (.iinc 3 1, 3) := by decide +kernel
theorem dX2_grams_27 : decode cX2_grams 27 = .ok (.goto (-23), 3) := by decide +kernel
theorem dX2_grams_30 : decode cX2_grams 30 = .ok (.iload_n 2, 1) := by decide +kernel
theorem dX2_grams_31 : decode cX2_grams 31 = .ok (.ireturn, 1) := by decide +kernel
theorem dX2_part_0 : decode cX2_part 0 = .ok (.aload_n 0, 1) := by decide +kernel
theorem dX2_part_1 : decode cX2_part 1 = .ok (.iload_n 1, 1) := by decide +kernel
theorem dX2_part_2 : decode cX2_part 2 = .ok (.invokevirtual 135, 3) := by decide +kernel
theorem dX2_part_5 : decode cX2_part 5 = .ok (.ifCond .eq 21, 3) := by decide +kernel
theorem dX2_part_8 : decode cX2_part 8 = .ok (.iload_n 2, 1) := by decide +kernel
theorem dX2_part_9 : decode cX2_part 9 = .ok (.iconst 0, 1) := by decide +kernel
theorem dX2_part_10 : decode cX2_part 10 = .ok (.aload_n 0, 1) := by decide +kernel
theorem dX2_part_11 : decode cX2_part 11 = .ok (.getfield 124, 3) := by decide +kernel
theorem dX2_part_14 : decode cX2_part 14 = .ok (.iconst 1, 1) := by decide +kernel
theorem dX2_part_15 : decode cX2_part 15 = .ok (.isub, 1) := by decide +kernel
theorem dX2_part_16 : decode cX2_part 16 = .ok (.invokestatic 128, 3) := by decide +kernel
theorem dX2_part_19 : decode cX2_part 19 = .ok (.ifCond .eq 7, 3) := by decide +kernel
theorem dX2_part_22 : decode cX2_part 22 = .ok (.iconst 1, 1) := by decide +kernel
theorem dX2_part_23 : decode cX2_part 23 = .ok (.goto 4, 3) := by decide +kernel
theorem dX2_part_26 : decode cX2_part 26 = .ok (.iconst 0, 1) := by decide +kernel
theorem dX2_part_27 : decode cX2_part 27 = .ok (.istore_n 3, 1) := by decide +kernel
theorem dX2_part_28 : decode cX2_part 28 = .ok (.aload_n 0, 1) := by decide +kernel
theorem dX2_part_29 : decode cX2_part 29 = .ok (.iload_n 3, 1) := by decide +kernel
theorem dX2_part_30 : decode cX2_part 30 = .ok (.ifCond .eq 7, 3) := by decide +kernel
theorem dX2_part_33 : decode cX2_part 33 = .ok (.iconst 0, 1) := by decide +kernel
theorem dX2_part_34 : decode cX2_part 34 = .ok (.goto 4, 3) := by decide +kernel
theorem dX2_part_37 : decode cX2_part 37 = .ok (.iconst 1, 1) := by decide +kernel
theorem dX2_part_38 : decode cX2_part 38 = .ok (.putfield 121, 3) := by decide +kernel
theorem dX2_part_41 : decode cX2_part 41 = .ok (.iload_n 3, 1) := by decide +kernel
theorem dX2_part_42 : decode cX2_part 42 = .ok (.ifCond .eq 17, 3) := by decide +kernel
theorem dX2_part_45 : decode cX2_part 45 = .ok (.aload_n 0, 1) := by decide +kernel
theorem dX2_part_46 : decode cX2_part 46 = .ok (.getfield 13, 3) := by decide +kernel
theorem dX2_part_49 : decode cX2_part 49 = .ok (.bipush 20, 2) := by decide +kernel
theorem dX2_part_51 : decode cX2_part 51 = .ok (.iload_n 1, 1) := by decide +kernel
theorem dX2_part_52 : decode cX2_part 52 = .ok (.imul, 1) := by decide +kernel
theorem dX2_part_53 : decode cX2_part 53 = .ok (.iload_n 2, 1) := by decide +kernel
theorem dX2_part_54 : decode cX2_part 54 = .ok (.iadd, 1) := by decide +kernel
theorem dX2_part_55 : decode cX2_part 55 = .ok (.iaload, 1) := by decide +kernel
theorem dX2_part_56 : decode cX2_part 56 = .ok (.goto 4, 3) := by decide +kernel
theorem dX2_part_59 : decode cX2_part 59 = .ok (.iconst 0, 1) := by decide +kernel
theorem dX2_part_60 : decode cX2_part 60 = .ok (.ireturn, 1) := by decide +kernel
theorem dX2_warmth_0 : decode cX2_warmth 0 = .ok (.aload_n 0, 1) := by decide +kernel
theorem dX2_warmth_1 : decode cX2_warmth 1 = .ok (.iconst 0, 1) := by decide +kernel
theorem dX2_warmth_2 : decode cX2_warmth 2 = .ok (.putfield 121, 3) := by decide +kernel
theorem dX2_warmth_5 : decode cX2_warmth 5 = .ok (.iload_n 1, 1) := by decide +kernel
theorem dX2_warmth_6 : decode cX2_warmth 6 = .ok (.iconst 0, 1) := by decide +kernel
theorem dX2_warmth_7 : decode cX2_warmth 7 = .ok (.iconst 2, 1) := by decide +kernel
theorem dX2_warmth_8 : decode cX2_warmth 8 = .ok (.invokestatic 128, 3) := by decide +kernel
theorem dX2_warmth_11 : decode cX2_warmth 11 = .ok (.ifCond .eq 28, 3) := by decide +kernel
theorem dX2_warmth_14 : decode cX2_warmth 14 = .ok (.iload_n 2, 1) := by decide +kernel
theorem dX2_warmth_15 : decode cX2_warmth 15 = .ok (.aload_n 0, 1) := by decide +kernel
theorem dX2_warmth_16 : decode cX2_warmth 16 = .ok (.getfield 142, 3) := by decide +kernel
theorem dX2_warmth_19 : decode cX2_warmth 19 = .ok (.sipush 599, 3) := by decide +kernel
theorem dX2_warmth_22 : decode cX2_warmth 22 = .ok (.invokestatic 128, 3) := by decide +kernel
theorem dX2_warmth_25 : decode cX2_warmth 25 = .ok (.ifCond .eq 14, 3) := by decide +kernel
theorem dX2_warmth_28 : decode cX2_warmth 28 = .ok (.iload_n 3, 1) := by decide +kernel
theorem dX2_warmth_29 : decode cX2_warmth 29 = .ok (.bipush (-5), 2) := by decide +kernel
theorem dX2_warmth_31 : decode cX2_warmth 31 = .ok (.bipush 42, 2) := by decide +kernel
theorem dX2_warmth_33 : decode cX2_warmth 33 = .ok (.invokestatic 128, 3) := by decide +kernel
theorem dX2_warmth_36 : decode cX2_warmth 36 = .ok (.ifCond .ne 5, 3) := by decide +kernel
theorem dX2_warmth_39 : decode cX2_warmth 39 = .ok (.iconst 0, 1) := by decide +kernel
theorem dX2_warmth_40 : decode cX2_warmth 40 = .ok (.ireturn, 1) := by decide +kernel
theorem dX2_warmth_41 : decode cX2_warmth 41 = .ok (.aload_n 0, 1) := by decide +kernel
theorem dX2_warmth_42 : decode cX2_warmth 42 = .ok (.getfield 44, 3) := by decide +kernel
theorem dX2_warmth_45 : decode cX2_warmth 45 = .ok (.sipush 600, 3) := by decide +kernel
theorem dX2_warmth_48 : decode cX2_warmth 48 = .ok (.iload_n 1, 1) := by decide +kernel
theorem dX2_warmth_49 : decode cX2_warmth 49 = .ok (.imul, 1) := by decide +kernel
theorem dX2_warmth_50 : decode cX2_warmth 50 = .ok (.iload_n 2, 1) := by decide +kernel
theorem dX2_warmth_51 : decode cX2_warmth 51 = .ok (.iadd, 1) := by decide +kernel
theorem dX2_warmth_52 : decode cX2_warmth 52 = .ok (.iload_n 3, 1) := by decide +kernel
theorem dX2_warmth_53 : decode cX2_warmth 53 = .ok (.i2b, 1) := by decide +kernel
theorem dX2_warmth_54 : decode cX2_warmth 54 = .ok (.bastore, 1) := by decide +kernel
theorem dX2_warmth_55 : decode cX2_warmth 55 = .ok (.aload_n 0, 1) := by decide +kernel
theorem dX2_warmth_56 : decode cX2_warmth 56 = .ok (.getfield 47, 3) := by decide +kernel
theorem dX2_warmth_59 : decode cX2_warmth 59 = .ok (.sipush 600, 3) := by decide +kernel
theorem dX2_warmth_62 : decode cX2_warmth 62 = .ok (.iload_n 1, 1) := by decide +kernel
theorem dX2_warmth_63 : decode cX2_warmth 63 = .ok (.imul, 1) := by decide +kernel
theorem dX2_warmth_64 : decode cX2_warmth 64 = .ok (.iload_n 2, 1) := by decide +kernel
theorem dX2_warmth_65 : decode cX2_warmth 65 = .ok (.iadd, 1) := by decide +kernel
theorem dX2_warmth_66 : decode cX2_warmth 66 = .ok (.iconst 1, 1) := by decide +kernel
theorem dX2_warmth_67 : decode cX2_warmth 67 = .ok (.bastore, 1) := by decide +kernel
theorem dX2_warmth_68 : decode cX2_warmth 68 = .ok (.iconst 1, 1) := by decide +kernel
theorem dX2_warmth_69 : decode cX2_warmth 69 = .ok (.ireturn, 1) := by decide +kernel
theorem dX2_test_0 : decode cX2_test 0 = .ok (.aload_n 0, 1) := by decide +kernel
theorem dX2_test_1 : decode cX2_test 1 = .ok (.iconst 0, 1) := by decide +kernel
theorem dX2_test_2 : decode cX2_test 2 = .ok (.putfield 121, 3) := by decide +kernel
theorem dX2_test_5 : decode cX2_test 5 = .ok (.aload_n 0, 1) := by decide +kernel
theorem dX2_test_6 : decode cX2_test 6 = .ok (.iload_n 1, 1) := by decide +kernel
theorem dX2_test_7 : decode cX2_test 7 = .ok (.invokevirtual 145, 3) := by decide +kernel
theorem dX2_test_10 : decode cX2_test 10 = .ok (.ifCond .eq 40, 3) := by decide +kernel
theorem dX2_test_13 : decode cX2_test 13 = .ok (.iload_n 2, 1) := by decide +kernel
theorem dX2_test_14 : decode cX2_test 14 = .ok (.aload_n 0, 1) := by decide +kernel
theorem dX2_test_15 : decode cX2_test 15 = .ok (.getfield 28, 3) := by decide +kernel
theorem dX2_test_18 : decode cX2_test 18 = .ok (.iload_n 1, 1) := by decide +kernel
theorem dX2_test_19 : decode cX2_test 19 = .ok (.iaload, 1) := by decide +kernel
theorem dX2_test_20 : decode cX2_test 20 = .ok (.aload_n 0, 1) := by decide +kernel
theorem dX2_test_21 : decode cX2_test 21 = .ok (.getfield 142, 3) := by decide +kernel
theorem dX2_test_24 : decode cX2_test 24 = .ok (.invokestatic 128, 3) := by decide +kernel
theorem dX2_test_27 : decode cX2_test 27 = .ok (.ifCond .eq 23, 3) := by decide +kernel
theorem dX2_test_30 : decode cX2_test 30 = .ok (.iload_n 3, 1) := by decide +kernel
theorem dX2_test_31 : decode cX2_test 31 = .ok (.iconst 0, 1) := by decide +kernel
theorem dX2_test_32 : decode cX2_test 32 = .ok (.sipush 1000, 3) := by decide +kernel
theorem dX2_test_35 : decode cX2_test 35 = .ok (.invokestatic 128, 3) := by decide +kernel
theorem dX2_test_38 : decode cX2_test 38 = .ok (.ifCond .eq 12, 3) := by decide +kernel
theorem dX2_test_41 : decode cX2_test 41 = .ok (.aload_n 0, 1) := by decide +kernel
theorem dX2_test_42 : decode cX2_test 42 = .ok (.getfield 159, 3) := by decide +kernel
theorem dX2_test_45 : decode cX2_test 45 = .ok (.bipush 100, 2) := by decide +kernel
theorem dX2_test_47 : decode cX2_test 47 = .ok (.if_icmp .ne 5, 3) := by decide +kernel
theorem dX2_test_50 : decode cX2_test 50 = .ok (.iconst (-1), 1) := by decide +kernel
theorem dX2_test_51 : decode cX2_test 51 = .ok (.ireturn, 1) := by decide +kernel
theorem dX2_test_52 : decode cX2_test 52 = .ok (.aload_n 0, 1) := by decide +kernel
theorem dX2_test_53 : decode cX2_test 53 = .ok (.getfield 54, 3) := by decide +kernel
theorem dX2_test_56 : decode cX2_test 56 = .ok (.aload_n 0, 1) := by decide +kernel
theorem dX2_test_57 : decode cX2_test 57 = .ok (.getfield 159, 3) := by decide +kernel
theorem dX2_test_60 : decode cX2_test 60 = .ok (.iload_n 1, 1) := by decide +kernel
theorem dX2_test_61 : decode cX2_test 61 = .ok (.iastore, 1) := by decide +kernel
theorem dX2_test_62 : decode cX2_test 62 = .ok (.aload_n 0, 1) := by decide +kernel
theorem dX2_test_63 : decode cX2_test 63 = .ok (.getfield 57, 3) := by decide +kernel
theorem dX2_test_66 : decode cX2_test 66 = .ok (.aload_n 0, 1) := by decide +kernel
theorem dX2_test_67 : decode cX2_test 67 = .ok (.getfield 159, 3) := by decide +kernel
theorem dX2_test_70 : decode cX2_test 70 = .ok (.iload_n 2, 1) := by decide +kernel
theorem dX2_test_71 : decode cX2_test 71 = .ok (.iastore, 1) := by decide +kernel
theorem dX2_test_72 : decode cX2_test 72 = .ok (.aload_n 0, 1) := by decide +kernel
theorem dX2_test_73 : decode cX2_test 73 = .ok (.getfield 60, 3) := by decide +kernel
theorem dX2_test_76 : decode cX2_test 76 = .ok (.aload_n 0, 1) := by decide +kernel
theorem dX2_test_77 : decode cX2_test 77 = .ok (.getfield 159, 3) := by decide +kernel
theorem dX2_test_80 : decode cX2_test 80 = .ok (.iload_n 3, 1) := by decide +kernel
theorem dX2_test_81 : decode cX2_test 81 = .ok (.iastore, 1) := by decide +kernel
theorem dX2_test_82 : decode cX2_test 82 = .ok (.aload_n 0, 1) := by decide +kernel
theorem dX2_test_83 : decode cX2_test 83 = .ok (.dup, 1) := by decide +kernel
theorem dX2_test_84 : decode cX2_test 84 = .ok (.getfield 159, 3) := by decide +kernel
theorem dX2_test_87 : decode cX2_test 87 = .ok (.iconst 1, 1) := by decide +kernel
theorem dX2_test_88 : decode cX2_test 88 = .ok (.iadd, 1) := by decide +kernel
theorem dX2_test_89 : decode cX2_test 89 = .ok (.putfield 159, 3) := by decide +kernel
theorem dX2_test_92 : decode cX2_test 92 = .ok (.aload_n 0, 1) := by decide +kernel
theorem dX2_test_93 : decode cX2_test 93 = .ok (.getfield 159, 3) := by decide +kernel
theorem dX2_test_96 : decode cX2_test 96 = .ok (.iconst 1, 1) := by decide +kernel
theorem dX2_test_97 : decode cX2_test 97 = .ok (.isub, 1) := by decide +kernel
theorem dX2_test_98 : decode cX2_test 98 = .ok (.ireturn, 1) := by decide +kernel
theorem dX2_span_0 : decode cX2_span 0 = .ok (.aload_n 0, 1) := by decide +kernel
theorem dX2_span_1 : decode cX2_span 1 = .ok (.iconst 0, 1) := by decide +kernel
theorem dX2_span_2 : decode cX2_span 2 = .ok (.putfield 121, 3) := by decide +kernel
theorem dX2_span_5 : decode cX2_span 5 = .ok (.aload_n 0, 1) := by decide +kernel
theorem dX2_span_6 : decode cX2_span 6 = .ok (.iload_n 1, 1) := by decide +kernel
theorem dX2_span_7 : decode cX2_span 7 = .ok (.invokevirtual 145, 3) := by decide +kernel
theorem dX2_span_10 : decode cX2_span 10 = .ok (.ifCond .eq 42, 3) := by decide +kernel
theorem dX2_span_13 : decode cX2_span 13 = .ok (.iload_n 2, 1) := by decide +kernel
theorem dX2_span_14 : decode cX2_span 14 = .ok (.aload_n 0, 1) := by decide +kernel
theorem dX2_span_15 : decode cX2_span 15 = .ok (.getfield 28, 3) := by decide +kernel
theorem dX2_span_18 : decode cX2_span 18 = .ok (.iload_n 1, 1) := by decide +kernel
theorem dX2_span_19 : decode cX2_span 19 = .ok (.iaload, 1) := by decide +kernel
theorem dX2_span_20 : decode cX2_span 20 = .ok (.aload_n 0, 1) := by decide +kernel
theorem dX2_span_21 : decode cX2_span 21 = .ok (.getfield 142, 3) := by decide +kernel
theorem dX2_span_24 : decode cX2_span 24 = .ok (.invokestatic 128, 3) := by decide +kernel
theorem dX2_span_27 : decode cX2_span 27 = .ok (.ifCond .eq 25, 3) := by decide +kernel
theorem dX2_span_30 : decode cX2_span 30 = .ok (.iload_n 3, 1) := by decide +kernel
theorem dX2_span_31 : decode cX2_span 31 = .ok (.iconst 0, 1) := by decide +kernel
theorem dX2_span_32 : decode cX2_span 32 = .ok (.aload_n 0, 1) := by decide +kernel
theorem dX2_span_33 : decode cX2_span 33 = .ok (.getfield 159, 3) := by decide +kernel
theorem dX2_span_36 : decode cX2_span 36 = .ok (.invokestatic 128, 3) := by decide +kernel
theorem dX2_span_39 : decode cX2_span 39 = .ok (.ifCond .eq 13, 3) := by decide +kernel
theorem dX2_span_42 : decode cX2_span 42 = .ok (.iload 4, 2) := by decide +kernel
theorem dX2_span_44 : decode cX2_span 44 = .ok (.iconst 0, 1) := by decide +kernel
theorem dX2_span_45 : decode cX2_span 45 = .ok (.iconst 1, 1) := by decide +kernel
theorem dX2_span_46 : decode cX2_span 46 = .ok (.invokestatic 128, 3) := by decide +kernel
theorem dX2_span_49 : decode cX2_span 49 = .ok (.ifCond .ne 5, 3) := by decide +kernel
theorem dX2_span_52 : decode cX2_span 52 = .ok (.iconst (-1), 1) := by decide +kernel
theorem dX2_span_53 : decode cX2_span 53 = .ok (.ireturn, 1) := by decide +kernel
theorem dX2_span_54 : decode cX2_span 54 = .ok (.aload_n 0, 1) := by decide +kernel
theorem dX2_span_55 : decode cX2_span 55 = .ok (.iload_n 1, 1) := by decide +kernel
theorem dX2_span_56 : decode cX2_span 56 = .ok (.iload_n 2, 1) := by decide +kernel
theorem dX2_span_57 : decode cX2_span 57 = .ok (.iload_n 3, 1) := by decide +kernel
theorem dX2_span_58 : decode cX2_span 58 = .ok (.iload 4, 2) := by decide +kernel
theorem dX2_span_60 : decode cX2_span 60 = .ok (.iconst 1, 1) := by decide +kernel
theorem dX2_span_61 : decode cX2_span 61 = .ok (.if_icmp .ne 7, 3) := by decide +kernel
theorem dX2_span_64 : decode cX2_span 64 = .ok (.iconst 1, 1) := by decide +kernel
theorem dX2_span_65 : decode cX2_span 65 = .ok (.goto 4, 3) := by decide +kernel
theorem dX2_span_68 : decode cX2_span 68 = .ok (.iconst 0, 1) := by decide +kernel
theorem dX2_span_69 : decode cX2_span 69 = .ok (.invokevirtual 166, 3) := by decide +kernel
theorem dX2_span_72 : decode cX2_span 72 = .ok (.ireturn, 1) := by decide +kernel
theorem dX2_spanOf_0 : decode cX2_spanOf 0 = .ok (.aload_n 0, 1) := by decide +kernel
theorem dX2_spanOf_1 : decode cX2_spanOf 1 = .ok (.iload_n 1, 1) := by decide +kernel
theorem dX2_spanOf_2 : decode cX2_spanOf 2 = .ok (.iload_n 2, 1) := by decide +kernel
theorem dX2_spanOf_3 : decode cX2_spanOf 3 = .ok (.iload_n 3, 1) := by decide +kernel
theorem dX2_spanOf_4 : decode cX2_spanOf 4 = .ok (.invokevirtual 162, 3) := by decide +kernel
theorem dX2_spanOf_7 : decode cX2_spanOf 7 = .ok (.istore 5, 2) := by decide +kernel
theorem dX2_spanOf_9 : decode cX2_spanOf 9 = .ok (.iload 5, 2) := by decide +kernel
theorem dX2_spanOf_11 : decode cX2_spanOf 11 = .ok (.iconst (-1), 1) := by decide +kernel
theorem dX2_spanOf_12 : decode cX2_spanOf 12 = .ok (.if_icmp .ne 12, 3) := by decide +kernel
theorem dX2_spanOf_15 : decode cX2_spanOf 15 = .ok (.aload_n 0, 1) := by decide +kernel
theorem dX2_spanOf_16 : decode cX2_spanOf 16 = .ok (.getfield 28, 3) := by decide +kernel
theorem dX2_spanOf_19 : decode cX2_spanOf 19 = .ok (.iload_n 1, 1) := by decide +kernel
theorem dX2_spanOf_20 : decode cX2_spanOf 20 = .ok (.iaload, 1) := by decide +kernel
theorem dX2_spanOf_21 : decode cX2_spanOf 21 = .ok (.goto 10, 3) := by decide +kernel
theorem dX2_spanOf_24 : decode cX2_spanOf 24 = .ok (.aload_n 0, 1) := by decide +kernel
theorem dX2_spanOf_25 : decode cX2_spanOf 25 = .ok (.getfield 57, 3) := by decide +kernel
theorem dX2_spanOf_28 : decode cX2_spanOf 28 = .ok (.iload 5, 2) := by decide +kernel
theorem dX2_spanOf_30 : decode cX2_spanOf 30 = .ok (.iaload, 1) := by decide +kernel
theorem dX2_spanOf_31 : decode cX2_spanOf 31 = .ok (.istore 6, 2) := by decide +kernel
theorem dX2_spanOf_33 : decode cX2_spanOf 33 = .ok (.iload 5, 2) := by decide +kernel
theorem dX2_spanOf_35 : decode cX2_spanOf 35 = .ok (.iconst (-1), 1) := by decide +kernel
theorem dX2_spanOf_36 : decode cX2_spanOf 36 = .ok (.if_icmp .eq 13, 3) := by decide +kernel
theorem dX2_spanOf_39 : decode cX2_spanOf 39 = .ok (.aload_n 0, 1) := by decide +kernel
theorem dX2_spanOf_40 : decode cX2_spanOf 40 = .ok (.getfield 60, 3) := by decide +kernel
theorem dX2_spanOf_43 : decode cX2_spanOf 43 = .ok (.iload 5, 2) := by decide +kernel
theorem dX2_spanOf_45 : decode cX2_spanOf 45 = .ok (.iaload, 1) := by decide +kernel
theorem dX2_spanOf_46 : decode cX2_spanOf 46 = .ok (.goto 23, 3) := by decide +kernel
theorem dX2_spanOf_49 : decode cX2_spanOf 49 = .ok (.iload 4, 2) := by decide +kernel
theorem dX2_spanOf_51 : decode cX2_spanOf 51 = .ok (.ifCond .eq 12, 3) := by decide +kernel
theorem dX2_spanOf_54 : decode cX2_spanOf 54 = .ok (.aload_n 0, 1) := by decide +kernel
theorem dX2_spanOf_55 : decode cX2_spanOf 55 = .ok (.getfield 34, 3) := by decide +kernel
theorem dX2_spanOf_58 : decode cX2_spanOf 58 = .ok (.iload_n 1, 1) := by decide +kernel
theorem dX2_spanOf_59 : decode cX2_spanOf 59 = .ok (.iaload, 1) := by decide +kernel
theorem dX2_spanOf_60 : decode cX2_spanOf 60 = .ok (.goto 9, 3) := by decide +kernel
theorem dX2_spanOf_63 : decode cX2_spanOf 63 = .ok (.aload_n 0, 1) := by decide +kernel
theorem dX2_spanOf_64 : decode cX2_spanOf 64 = .ok (.getfield 31, 3) := by decide +kernel
theorem dX2_spanOf_67 : decode cX2_spanOf 67 = .ok (.iload_n 1, 1) := by decide +kernel
theorem dX2_spanOf_68 : decode cX2_spanOf 68 = .ok (.iaload, 1) := by decide +kernel
theorem dX2_spanOf_69 : decode cX2_spanOf 69 = .ok (.istore 7, 2) := by decide +kernel
theorem dX2_spanOf_71 : decode cX2_spanOf 71 = .ok (.iload 6, 2) := by decide +kernel
theorem dX2_spanOf_73 : decode cX2_spanOf 73 = .ok (.istore 8, 2) := by decide +kernel
theorem dX2_spanOf_75 : decode cX2_spanOf 75 = .ok (.iload 8, 2) := by decide +kernel
theorem dX2_spanOf_77 : decode cX2_spanOf 77 = .ok (.iload_n 2, 1) := by decide +kernel
theorem dX2_spanOf_78 : decode cX2_spanOf 78 = .ok (.if_icmp .ge 50, 3) := by decide +kernel
theorem dX2_spanOf_81 : decode cX2_spanOf 81 = .ok (.aload_n 0, 1) := by decide +kernel
theorem dX2_spanOf_82 : decode cX2_spanOf 82 = .ok (.getfield 37, 3) := by decide +kernel
theorem dX2_spanOf_85 : decode cX2_spanOf 85 = .ok (.sipush 600, 3) := by decide +kernel
theorem dX2_spanOf_88 : decode cX2_spanOf 88 = .ok (.iload_n 1, 1) := by decide +kernel
theorem dX2_spanOf_89 : decode cX2_spanOf 89 = .ok (.imul, 1) := by decide +kernel
theorem dX2_spanOf_90 : decode cX2_spanOf 90 = .ok (.iload 8, 2) := by decide +kernel
theorem dX2_spanOf_92 : decode cX2_spanOf 92 = .ok (.iadd, 1) := by decide +kernel
theorem dX2_spanOf_93 : decode cX2_spanOf 93 = .ok (.baload, 1) := by decide +kernel
theorem dX2_spanOf_94 : decode cX2_spanOf 94 = .ok (.iconst 1, 1) := by decide +kernel
theorem dX2_spanOf_95 : decode cX2_spanOf 95 = .ok (.isub, 1) := by decide +kernel
theorem dX2_spanOf_96 : decode cX2_spanOf 96 = .ok (.istore 9, 2) := by decide +kernel
theorem dX2_spanOf_98 : decode cX2_spanOf 98 = .ok (.iload 7, 2) := by decide +kernel
theorem dX2_spanOf_100 : decode cX2_spanOf 100 = .ok (.iload 4, 2) := by decide +kernel
theorem dX2_spanOf_102 : decode cX2_spanOf 102 = .ok (.ifCond .eq 15, 3) := by decide +kernel
theorem dX2_spanOf_105 : decode cX2_spanOf 105 = .ok (.iload 9, 2) := by decide +kernel
theorem dX2_spanOf_107 : decode cX2_spanOf 107 = .ok (.iload 9, 2) := by decide +kernel
theorem dX2_spanOf_109 : decode cX2_spanOf 109 = .ok (.iconst 2, 1) := by decide +kernel
theorem dX2_spanOf_110 : decode cX2_spanOf 110 = .ok (.idiv, 1) := by decide +kernel
theorem dX2_spanOf_111 : decode cX2_spanOf 111 = .ok (.iadd, 1) := by decide +kernel
theorem dX2_spanOf_112 : decode cX2_spanOf 112 = .ok (.iconst 1, 1) := by decide +kernel
theorem dX2_spanOf_113 : decode cX2_spanOf 113 = .ok (.iadd, 1) := by decide +kernel
theorem dX2_spanOf_114 : decode cX2_spanOf 114 = .ok (.goto 5, 3) := by decide +kernel
theorem dX2_spanOf_117 : decode cX2_spanOf 117 = .ok (.iload 9, 2) := by decide +kernel
theorem dX2_spanOf_119 : decode cX2_spanOf 119 = .ok (.iadd, 1) := by decide +kernel
theorem dX2_spanOf_120 : decode cX2_spanOf 120 = .ok (.istore 7, 2) := by decide +kernel
theorem dX2_spanOf_122 : decode cX2_spanOf 122 = .ok (.iinc 8 1, 3) := by decide +kernel
theorem dX2_spanOf_125 : decode cX2_spanOf 125 = .ok (.goto (-50), 3) := by decide +kernel
theorem dX2_spanOf_128 : decode cX2_spanOf 128 = .ok (.iload 7, 2) := by decide +kernel
theorem dX2_spanOf_130 : decode cX2_spanOf 130 = .ok (.sipush 1000, 3) := by decide +kernel
theorem dX2_spanOf_133 : decode cX2_spanOf 133 = .ok (.if_icmp .le 9, 3) := by decide +kernel
theorem dX2_spanOf_136 : decode cX2_spanOf 136 = .ok (.sipush 1000, 3) := by decide +kernel
theorem dX2_spanOf_139 : decode cX2_spanOf 139 = .ok (.goto 5, 3) := by decide +kernel
theorem dX2_spanOf_142 : decode cX2_spanOf 142 = .ok (.iload 7, 2) := by decide +kernel
theorem dX2_spanOf_144 : decode cX2_spanOf 144 = .ok (.ireturn, 1) := by decide +kernel
theorem dX2_latestTest_0 : decode cX2_latestTest 0 = .ok (.iconst (-1), 1) := by decide +kernel
theorem dX2_latestTest_1 : decode cX2_latestTest 1 = .ok (.istore 4, 2) := by decide +kernel
theorem dX2_latestTest_3 : decode cX2_latestTest 3 = .ok (.iconst 0, 1) := by decide +kernel
theorem dX2_latestTest_4 : decode cX2_latestTest 4 = .ok (.istore 5, 2) := by decide +kernel
theorem dX2_latestTest_6 : decode cX2_latestTest 6 = .ok (.iload 5, 2) := by decide +kernel
theorem dX2_latestTest_8 : decode cX2_latestTest 8 = .ok (.iload_n 3, 1) := by decide +kernel
theorem dX2_latestTest_9 : decode cX2_latestTest 9 = .ok (.if_icmp .ge 67, 3) := by decide +kernel
theorem dX2_latestTest_12 : decode cX2_latestTest 12 = .ok (.aload_n 0, 1) := by decide +kernel
theorem dX2_latestTest_13 : decode cX2_latestTest 13 = .ok (.getfield 54, 3) := by decide +kernel
theorem dX2_latestTest_16 : decode cX2_latestTest 16 = .ok (.iload 5, 2) := by decide +kernel
theorem dX2_latestTest_18 : decode cX2_latestTest 18 = .ok (.iaload, 1) := by decide +kernel
theorem dX2_latestTest_19 : decode cX2_latestTest 19 = .ok (.iload_n 1, 1) := by decide +kernel
theorem dX2_latestTest_20 : decode cX2_latestTest 20 = .ok (.if_icmp .ne 50, 3) := by decide +kernel
theorem dX2_latestTest_23 : decode cX2_latestTest 23 = .ok (.aload_n 0, 1) := by decide +kernel
theorem dX2_latestTest_24 : decode cX2_latestTest 24 = .ok (.getfield 57, 3) := by decide +kernel
theorem dX2_latestTest_27 : decode cX2_latestTest 27 = .ok (.iload 5, 2) := by decide +kernel
theorem dX2_latestTest_29 : decode cX2_latestTest 29 = .ok (.iaload, 1) := by decide +kernel
theorem dX2_latestTest_30 : decode cX2_latestTest 30 = .ok (.aload_n 0, 1) := by decide +kernel
theorem dX2_latestTest_31 : decode cX2_latestTest 31 = .ok (.getfield 28, 3) := by decide +kernel
theorem dX2_latestTest_34 : decode cX2_latestTest 34 = .ok (.iload_n 1, 1) := by decide +kernel
theorem dX2_latestTest_35 : decode cX2_latestTest 35 = .ok (.iaload, 1) := by decide +kernel
theorem dX2_latestTest_36 : decode cX2_latestTest 36 = .ok (.iload_n 2, 1) := by decide +kernel
theorem dX2_latestTest_37 : decode cX2_latestTest 37 = .ok (.invokestatic 128, 3) := by decide +kernel
theorem dX2_latestTest_40 : decode cX2_latestTest 40 = .ok (.ifCond .eq 30, 3) := by decide +kernel
theorem dX2_latestTest_43 : decode cX2_latestTest 43 = .ok (.iload 4, 2) := by decide +kernel
theorem dX2_latestTest_45 : decode cX2_latestTest 45 = .ok (.iconst (-1), 1) := by decide +kernel
theorem dX2_latestTest_46 : decode cX2_latestTest 46 = .ok (.if_icmp .eq 20, 3) := by decide +kernel
theorem dX2_latestTest_49 : decode cX2_latestTest 49 = .ok (.aload_n 0, 1) := by decide +kernel
theorem dX2_latestTest_50 : decode cX2_latestTest 50 = .ok (.getfield 57, 3) := by decide +kernel
theorem dX2_latestTest_53 : decode cX2_latestTest 53 = .ok (.iload 5, 2) := by decide +kernel
theorem dX2_latestTest_55 : decode cX2_latestTest 55 = .ok (.iaload, 1) := by decide +kernel
theorem dX2_latestTest_56 : decode cX2_latestTest 56 = .ok (.aload_n 0, 1) := by decide +kernel
theorem dX2_latestTest_57 : decode cX2_latestTest 57 = .ok (.getfield 57, 3) := by decide +kernel
theorem dX2_latestTest_60 : decode cX2_latestTest 60 = .ok (.iload 4, 2) := by decide +kernel
theorem dX2_latestTest_62 : decode cX2_latestTest 62 = .ok (.iaload, 1) := by decide +kernel
theorem dX2_latestTest_63 : decode cX2_latestTest 63 = .ok (.if_icmp .lt 7, 3) := by decide +kernel
theorem dX2_latestTest_66 : decode cX2_latestTest 66 = .ok (.iload 5, 2) := by decide +kernel
theorem dX2_latestTest_68 : decode cX2_latestTest 68 = .ok (.istore 4, 2) := by decide +kernel
theorem dX2_latestTest_70 : decode cX2_latestTest 70 = .ok (.iinc 5 1, 3) := by decide +kernel
theorem dX2_latestTest_73 : decode cX2_latestTest 73 = .ok (.goto (-67), 3) := by decide +kernel
theorem dX2_latestTest_76 : decode cX2_latestTest 76 = .ok (.iload 4, 2) := by decide +kernel
theorem dX2_latestTest_78 : decode cX2_latestTest 78 = .ok (.ireturn, 1) := by decide +kernel
theorem dX2_feed_0 : decode cX2_feed 0 = .ok (.aload_n 0, 1) := by decide +kernel
theorem dX2_feed_1 : decode cX2_feed 1 = .ok (.iconst 0, 1) := by decide +kernel
theorem dX2_feed_2 : decode cX2_feed 2 = .ok (.putfield 121, 3) := by decide +kernel
theorem dX2_feed_5 : decode cX2_feed 5 = .ok (.aload_n 0, 1) := by decide +kernel
theorem dX2_feed_6 : decode cX2_feed 6 = .ok (.getfield 170, 3) := by decide +kernel
theorem dX2_feed_9 : decode cX2_feed 9 = .ok (.sipush 280, 3) := by decide +kernel
theorem dX2_feed_12 : decode cX2_feed 12 = .ok (.if_icmp .le 5, 3) := by decide +kernel
theorem dX2_feed_15 : decode cX2_feed 15 = .ok (.iconst (-1), 1) := by decide +kernel
theorem dX2_feed_16 : decode cX2_feed 16 = .ok (.ireturn, 1) := by decide +kernel
theorem dX2_feed_17 : decode cX2_feed 17 = .ok (.iconst 0, 1) := by decide +kernel
theorem dX2_feed_18 : decode cX2_feed 18 = .ok (.istore 6, 2) := by decide +kernel
theorem dX2_feed_20 : decode cX2_feed 20 = .ok (.iload 6, 2) := by decide +kernel
theorem dX2_feed_22 : decode cX2_feed 22 = .ok (.bipush 20, 2) := by decide +kernel
theorem dX2_feed_24 : decode cX2_feed 24 = .ok (.if_icmp .ge 90, 3) := by decide +kernel
theorem dX2_feed_27 : decode cX2_feed 27 = .ok (.iload 6, 2) := by decide +kernel
theorem dX2_feed_29 : decode cX2_feed 29 = .ok (.iconst 4, 1) := by decide +kernel
theorem dX2_feed_30 : decode cX2_feed 30 = .ok (.if_icmp .ge 7, 3) := by decide +kernel
theorem dX2_feed_33 : decode cX2_feed 33 = .ok (.iload_n 1, 1) := by decide +kernel
theorem dX2_feed_34 : decode cX2_feed 34 = .ok (.goto 39, 3) := by decide +kernel
theorem dX2_feed_37 : decode cX2_feed 37 = .ok (.iload 6, 2) := by decide +kernel
theorem dX2_feed_39 : decode cX2_feed 39 = .ok (.bipush 8, 2) := by decide +kernel
theorem dX2_feed_41 : decode cX2_feed 41 = .ok (.if_icmp .ge 7, 3) := by decide +kernel
theorem dX2_feed_44 : decode cX2_feed 44 = .ok (.iload_n 2, 1) := by decide +kernel
theorem dX2_feed_45 : decode cX2_feed 45 = .ok (.goto 28, 3) := by decide +kernel
theorem dX2_feed_48 : decode cX2_feed 48 = .ok (.iload 6, 2) := by decide +kernel
theorem dX2_feed_50 : decode cX2_feed 50 = .ok (.bipush 12, 2) := by decide +kernel
theorem dX2_feed_52 : decode cX2_feed 52 = .ok (.if_icmp .ge 7, 3) := by decide +kernel
theorem dX2_feed_55 : decode cX2_feed 55 = .ok (.iload_n 3, 1) := by decide +kernel
theorem dX2_feed_56 : decode cX2_feed 56 = .ok (.goto 17, 3) := by decide +kernel
theorem dX2_feed_59 : decode cX2_feed 59 = .ok (.iload 6, 2) := by decide +kernel
theorem dX2_feed_61 : decode cX2_feed 61 = .ok (.bipush 16, 2) := by decide +kernel
theorem dX2_feed_63 : decode cX2_feed 63 = .ok (.if_icmp .ge 8, 3) := by decide +kernel
theorem dX2_feed_66 : decode cX2_feed 66 = .ok (.iload 4, 2) := by decide +kernel
theorem dX2_feed_68 : decode cX2_feed 68 = .ok (.goto 5, 3) := by decide +kernel
theorem dX2_feed_71 : decode cX2_feed 71 = .ok (.iload 5, 2) := by decide +kernel
theorem dX2_feed_73 : decode cX2_feed 73 = .ok (.istore 7, 2) := by decide +kernel
theorem dX2_feed_75 : decode cX2_feed 75 = .ok (.aload_n 0, 1) := by decide +kernel
theorem dX2_feed_76 : decode cX2_feed 76 = .ok (.getfield 87, 3) := by decide +kernel
theorem dX2_feed_79 : decode cX2_feed 79 = .ok (.aload_n 0, 1) := by decide +kernel
theorem dX2_feed_80 : decode cX2_feed 80 = .ok (.getfield 170, 3) := by decide +kernel
theorem dX2_feed_83 : decode cX2_feed 83 = .ok (.iload 7, 2) := by decide +kernel
theorem dX2_feed_85 : decode cX2_feed 85 = .ok (.bipush 24, 2) := by decide +kernel
theorem dX2_feed_87 : decode cX2_feed 87 = .ok (.bipush 8, 2) := by decide +kernel
theorem dX2_feed_89 : decode cX2_feed 89 = .ok (.iload 6, 2) := by decide +kernel
theorem dX2_feed_91 : decode cX2_feed 91 = .ok (.iconst 4, 1) := by decide +kernel
theorem dX2_feed_92 : decode cX2_feed 92 = .ok (.irem, 1) := by decide +kernel
theorem dX2_feed_93 : decode cX2_feed 93 = .ok (.imul, 1) := by decide +kernel
theorem dX2_feed_94 : decode cX2_feed 94 = .ok (.isub, 1) := by decide +kernel
theorem dX2_feed_95 : decode cX2_feed 95 = .ok (.ishr, 1) := by decide +kernel
theorem dX2_feed_96 : decode cX2_feed 96 = .ok (.i2b, 1) := by decide +kernel
theorem dX2_feed_97 : decode cX2_feed 97 = .ok (.bastore, 1) := by decide +kernel
theorem dX2_feed_98 : decode cX2_feed 98 = .ok (.aload_n 0, 1) := by decide +kernel
theorem dX2_feed_99 : decode cX2_feed 99 = .ok (.dup, 1) := by decide +kernel
theorem dX2_feed_100 : decode cX2_feed 100 = .ok (.getfield 170, 3) := by decide +kernel
theorem dX2_feed_103 : decode cX2_feed 103 = .ok (.iconst 1, 1) := by decide +kernel
theorem dX2_feed_104 : decode cX2_feed 104 = .ok (.iadd, 1) := by decide +kernel
theorem dX2_feed_105 : decode cX2_feed 105 = .ok (.putfield 170, 3) := by decide +kernel
theorem dX2_feed_108 : decode cX2_feed 108 = .ok (.iinc 6 1, 3) := by decide +kernel
theorem dX2_feed_111 : decode cX2_feed 111 = .ok (.goto (-91), 3) := by decide +kernel
theorem dX2_feed_114 : decode cX2_feed 114 = .ok (.aload_n 0, 1) := by decide +kernel
theorem dX2_feed_115 : decode cX2_feed 115 = .ok (.getfield 170, 3) := by decide +kernel
theorem dX2_feed_118 : decode cX2_feed 118 = .ok (.ireturn, 1) := by decide +kernel
theorem dX2_end_0 : decode cX2_end 0 = .ok (.aload_n 0, 1) := by decide +kernel
theorem dX2_end_1 : decode cX2_end 1 = .ok (.iconst 0, 1) := by decide +kernel
theorem dX2_end_2 : decode cX2_end 2 = .ok (.putfield 121, 3) := by decide +kernel
theorem dX2_end_5 : decode cX2_end 5 = .ok (.iload_n 1, 1) := by decide +kernel
theorem dX2_end_6 : decode cX2_end 6 = .ok (.iconst 0, 1) := by decide +kernel
theorem dX2_end_7 : decode cX2_end 7 = .ok (.aload_n 0, 1) := by decide +kernel
theorem dX2_end_8 : decode cX2_end 8 = .ok (.getfield 170, 3) := by decide +kernel
theorem dX2_end_11 : decode cX2_end 11 = .ok (.invokestatic 128, 3) := by decide +kernel
theorem dX2_end_14 : decode cX2_end 14 = .ok (.ifCond .ne 5, 3) := by decide +kernel
theorem dX2_end_17 : decode cX2_end 17 = .ok (.iconst (-1), 1) := by decide +kernel
theorem dX2_end_18 : decode cX2_end 18 = .ok (.ireturn, 1) := by decide +kernel
theorem dX2_end_19 : decode cX2_end 19 = .ok (.aload_n 0, 1) := by decide +kernel
theorem dX2_end_20 : decode cX2_end 20 = .ok (.iload_n 1, 1) := by decide +kernel
theorem dX2_end_21 : decode cX2_end 21 = .ok (.putfield 170, 3) := by decide +kernel
theorem dX2_end_24 : decode cX2_end 24 = .ok (.iload_n 1, 1) := by decide +kernel
theorem dX2_end_25 : decode cX2_end 25 = .ok (.ireturn, 1) := by decide +kernel
theorem dX2_recipe_0 : decode cX2_recipe 0 = .ok (.aload_n 0, 1) := by decide +kernel
theorem dX2_recipe_1 : decode cX2_recipe 1 = .ok (.iconst 0, 1) := by decide +kernel
theorem dX2_recipe_2 : decode cX2_recipe 2 = .ok (.putfield 121, 3) := by decide +kernel
theorem dX2_recipe_5 : decode cX2_recipe 5 = .ok (.iload_n 1, 1) := by decide +kernel
theorem dX2_recipe_6 : decode cX2_recipe 6 = .ok (.aload_n 0, 1) := by decide +kernel
theorem dX2_recipe_7 : decode cX2_recipe 7 = .ok (.getfield 142, 3) := by decide +kernel
theorem dX2_recipe_10 : decode cX2_recipe 10 = .ok (.bipush 24, 2) := by decide +kernel
theorem dX2_recipe_12 : decode cX2_recipe 12 = .ok (.idiv, 1) := by decide +kernel
theorem dX2_recipe_13 : decode cX2_recipe 13 = .ok (.bipush 24, 2) := by decide +kernel
theorem dX2_recipe_15 : decode cX2_recipe 15 = .ok (.invokestatic 128, 3) := by decide +kernel
theorem dX2_recipe_18 : decode cX2_recipe 18 = .ok (.ifCond .eq 12, 3) := by decide +kernel
theorem dX2_recipe_21 : decode cX2_recipe 21 = .ok (.aload_n 0, 1) := by decide +kernel
theorem dX2_recipe_22 : decode cX2_recipe 22 = .ok (.getfield 245, 3) := by decide +kernel
theorem dX2_recipe_25 : decode cX2_recipe 25 = .ok (.bipush 10, 2) := by decide +kernel
theorem dX2_recipe_27 : decode cX2_recipe 27 = .ok (.if_icmp .ne 5, 3) := by decide +kernel
theorem dX2_recipe_30 : decode cX2_recipe 30 = .ok (.iconst (-1), 1) := by decide +kernel
theorem dX2_recipe_31 : decode cX2_recipe 31 = .ok (.ireturn, 1) := by decide +kernel
theorem dX2_recipe_32 : decode cX2_recipe 32 = .ok (.aload_n 0, 1) := by decide +kernel
theorem dX2_recipe_33 : decode cX2_recipe 33 = .ok (.iconst 0, 1) := by decide +kernel
theorem dX2_recipe_34 : decode cX2_recipe 34 = .ok (.putfield 188, 3) := by decide +kernel
theorem dX2_recipe_37 : decode cX2_recipe 37 = .ok (.aload_n 0, 1) := by decide +kernel
theorem dX2_recipe_38 : decode cX2_recipe 38 = .ok (.iconst (-1), 1) := by decide +kernel
theorem dX2_recipe_39 : decode cX2_recipe 39 = .ok (.putfield 90, 3) := by decide +kernel
theorem dX2_recipe_42 : decode cX2_recipe 42 = .ok (.aload_n 0, 1) := by decide +kernel
theorem dX2_recipe_43 : decode cX2_recipe 43 = .ok (.getfield 66, 3) := by decide +kernel
theorem dX2_recipe_46 : decode cX2_recipe 46 = .ok (.bipush 10, 2) := by decide +kernel
theorem dX2_recipe_48 : decode cX2_recipe 48 = .ok (.iconst 0, 1) := by decide +kernel
theorem dX2_recipe_49 : decode cX2_recipe 49 = .ok (.iastore, 1) := by decide +kernel
theorem dX2_recipe_50 : decode cX2_recipe 50 = .ok (.aload_n 0, 1) := by decide +kernel
theorem dX2_recipe_51 : decode cX2_recipe 51 = .ok (.iconst 0, 1) := by decide +kernel
theorem dX2_recipe_52 : decode cX2_recipe 52 = .ok (.putfield 173, 3) := by decide +kernel
theorem dX2_recipe_55 : decode cX2_recipe 55 = .ok (.aload_n 0, 1) := by decide +kernel
theorem dX2_recipe_56 : decode cX2_recipe 56 = .ok (.invokevirtual 208, 3) := by decide +kernel
theorem dX2_recipe_59 : decode cX2_recipe 59 = .ok (.iconst 1, 1) := by decide +kernel
theorem dX2_recipe_60 : decode cX2_recipe 60 = .ok (.istore_n 2, 1) := by decide +kernel
theorem dX2_recipe_61 : decode cX2_recipe 61 = .ok (.iload_n 2, 1) := by decide +kernel
theorem dX2_recipe_62 : decode cX2_recipe 62 = .ok (.ifCond .eq 18, 3) := by decide +kernel
theorem dX2_recipe_65 : decode cX2_recipe 65 = .ok (.aload_n 0, 1) := by decide +kernel
theorem dX2_recipe_66 : decode cX2_recipe 66 = .ok (.getfield 182, 3) := by decide +kernel
theorem dX2_recipe_69 : decode cX2_recipe 69 = .ok (.ifCond .eq 11, 3) := by decide +kernel
theorem dX2_recipe_72 : decode cX2_recipe 72 = .ok (.aload_n 0, 1) := by decide +kernel
theorem dX2_recipe_73 : decode cX2_recipe 73 = .ok (.invokevirtual 248, 3) := by decide +kernel
theorem dX2_recipe_76 : decode cX2_recipe 76 = .ok (.istore_n 2, 1) := by decide +kernel
theorem dX2_recipe_77 : decode cX2_recipe 77 = .ok (.goto (-16), 3) := by decide +kernel
theorem dX2_recipe_80 : decode cX2_recipe 80 = .ok (.aload_n 0, 1) := by decide +kernel
theorem dX2_recipe_81 : decode cX2_recipe 81 = .ok (.iconst 0, 1) := by decide +kernel
theorem dX2_recipe_82 : decode cX2_recipe 82 = .ok (.putfield 170, 3) := by decide +kernel
theorem dX2_recipe_85 : decode cX2_recipe 85 = .ok (.aload_n 0, 1) := by decide +kernel
theorem dX2_recipe_86 : decode cX2_recipe 86 = .ok (.getfield 188, 3) := by decide +kernel
theorem dX2_recipe_89 : decode cX2_recipe 89 = .ok (.ifCond .le 11, 3) := by decide +kernel
theorem dX2_recipe_92 : decode cX2_recipe 92 = .ok (.aload_n 0, 1) := by decide +kernel
theorem dX2_recipe_93 : decode cX2_recipe 93 = .ok (.getfield 188, 3) := by decide +kernel
theorem dX2_recipe_96 : decode cX2_recipe 96 = .ok (.bipush 10, 2) := by decide +kernel
theorem dX2_recipe_98 : decode cX2_recipe 98 = .ok (.isub, 1) := by decide +kernel
theorem dX2_recipe_99 : decode cX2_recipe 99 = .ok (.ireturn, 1) := by decide +kernel
theorem dX2_recipe_100 : decode cX2_recipe 100 = .ok (.aload_n 0, 1) := by decide +kernel
theorem dX2_recipe_101 : decode cX2_recipe 101 = .ok (.getfield 63, 3) := by decide +kernel
theorem dX2_recipe_104 : decode cX2_recipe 104 = .ok (.aload_n 0, 1) := by decide +kernel
theorem dX2_recipe_105 : decode cX2_recipe 105 = .ok (.getfield 245, 3) := by decide +kernel
theorem dX2_recipe_108 : decode cX2_recipe 108 = .ok (.iload_n 1, 1) := by decide +kernel
theorem dX2_recipe_109 : decode cX2_recipe 109 = .ok (.iastore, 1) := by decide +kernel
theorem dX2_recipe_110 : decode cX2_recipe 110 = .ok (.aload_n 0, 1) := by decide +kernel
theorem dX2_recipe_111 : decode cX2_recipe 111 = .ok (.getfield 66, 3) := by decide +kernel
theorem dX2_recipe_114 : decode cX2_recipe 114 = .ok (.aload_n 0, 1) := by decide +kernel
theorem dX2_recipe_115 : decode cX2_recipe 115 = .ok (.getfield 245, 3) := by decide +kernel
theorem dX2_recipe_118 : decode cX2_recipe 118 = .ok (.aload_n 0, 1) := by decide +kernel
theorem dX2_recipe_119 : decode cX2_recipe 119 = .ok (.getfield 66, 3) := by decide +kernel
theorem dX2_recipe_122 : decode cX2_recipe 122 = .ok (.bipush 10, 2) := by decide +kernel
theorem dX2_recipe_124 : decode cX2_recipe 124 = .ok (.iaload, 1) := by decide +kernel
theorem dX2_recipe_125 : decode cX2_recipe 125 = .ok (.iastore, 1) := by decide +kernel
theorem dX2_recipe_126 : decode cX2_recipe 126 = .ok (.iconst 0, 1) := by decide +kernel
theorem dX2_recipe_127 : decode cX2_recipe 127 = .ok (.istore_n 3, 1) := by decide +kernel
theorem dX2_recipe_128 : decode cX2_recipe 128 = .ok (.iload_n 3, 1) := by decide +kernel
theorem dX2_recipe_129 : decode cX2_recipe 129 = .ok (.bipush 10, 2) := by decide +kernel
theorem dX2_recipe_131 : decode cX2_recipe 131 = .ok (.if_icmp .ge 161, 3) := by decide +kernel
theorem dX2_recipe_134 : decode cX2_recipe 134 = .ok (.bipush 10, 2) := by decide +kernel
theorem dX2_recipe_136 : decode cX2_recipe 136 = .ok (.aload_n 0, 1) := by decide +kernel
theorem dX2_recipe_137 : decode cX2_recipe 137 = .ok (.getfield 245, 3) := by decide +kernel
theorem dX2_recipe_140 : decode cX2_recipe 140 = .ok (.imul, 1) := by decide +kernel
theorem dX2_recipe_141 : decode cX2_recipe 141 = .ok (.iload_n 3, 1) := by decide +kernel
theorem dX2_recipe_142 : decode cX2_recipe 142 = .ok (.iadd, 1) := by decide +kernel
theorem dX2_recipe_143 : decode cX2_recipe 143 = .ok (.istore 4, 2) := by decide +kernel
theorem dX2_recipe_145 : decode cX2_recipe 145 = .ok (.aload_n 0, 1) := by decide +kernel
theorem dX2_recipe_146 : decode cX2_recipe 146 = .ok (.getfield 69, 3) := by decide +kernel
theorem dX2_recipe_149 : decode cX2_recipe 149 = .ok (.iload 4, 2) := by decide +kernel
theorem dX2_recipe_151 : decode cX2_recipe 151 = .ok (.aload_n 0, 1) := by decide +kernel
theorem dX2_recipe_152 : decode cX2_recipe 152 = .ok (.getfield 69, 3) := by decide +kernel
theorem dX2_recipe_155 : decode cX2_recipe 155 = .ok (.bipush 100, 2) := by decide +kernel
theorem dX2_recipe_157 : decode cX2_recipe 157 = .ok (.iload_n 3, 1) := by decide +kernel
theorem dX2_recipe_158 : decode cX2_recipe 158 = .ok (.iadd, 1) := by decide +kernel
theorem dX2_recipe_159 : decode cX2_recipe 159 = .ok (.iaload, 1) := by decide +kernel
theorem dX2_recipe_160 : decode cX2_recipe 160 = .ok (.iastore, 1) := by decide +kernel
theorem dX2_recipe_161 : decode cX2_recipe 161 = .ok (.aload_n 0, 1) := by decide +kernel
theorem dX2_recipe_162 : decode cX2_recipe 162 = .ok (.getfield 72, 3) := by decide +kernel
theorem dX2_recipe_165 : decode cX2_recipe 165 = .ok (.iload 4, 2) := by decide +kernel
theorem dX2_recipe_167 : decode cX2_recipe 167 = .ok (.aload_n 0, 1) := by decide +kernel
theorem dX2_recipe_168 : decode cX2_recipe 168 = .ok (.getfield 72, 3) := by decide +kernel
theorem dX2_recipe_171 : decode cX2_recipe 171 = .ok (.bipush 100, 2) := by decide +kernel
theorem dX2_recipe_173 : decode cX2_recipe 173 = .ok (.iload_n 3, 1) := by decide +kernel
theorem dX2_recipe_174 : decode cX2_recipe 174 = .ok (.iadd, 1) := by decide +kernel
theorem dX2_recipe_175 : decode cX2_recipe 175 = .ok (.iaload, 1) := by decide +kernel
theorem dX2_recipe_176 : decode cX2_recipe 176 = .ok (.iastore, 1) := by decide +kernel
theorem dX2_recipe_177 : decode cX2_recipe 177 = .ok (.aload_n 0, 1) := by decide +kernel
theorem dX2_recipe_178 : decode cX2_recipe 178 = .ok (.getfield 75, 3) := by decide +kernel
theorem dX2_recipe_181 : decode cX2_recipe 181 = .ok (.iload 4, 2) := by decide +kernel
theorem dX2_recipe_183 : decode cX2_recipe 183 = .ok (.aload_n 0, 1) := by decide +kernel
theorem dX2_recipe_184 : decode cX2_recipe 184 = .ok (.getfield 75, 3) := by decide +kernel
theorem dX2_recipe_187 : decode cX2_recipe 187 = .ok (.bipush 100, 2) := by decide +kernel
theorem dX2_recipe_189 : decode cX2_recipe 189 = .ok (.iload_n 3, 1) := by decide +kernel
theorem dX2_recipe_190 : decode cX2_recipe 190 = .ok (.iadd, 1) := by decide +kernel
theorem dX2_recipe_191 : decode cX2_recipe 191 = .ok (.iaload, 1) := by decide +kernel
theorem dX2_recipe_192 : decode cX2_recipe 192 = .ok (.iastore, 1) := by decide +kernel
theorem dX2_recipe_193 : decode cX2_recipe 193 = .ok (.iconst 0, 1) := by decide +kernel
theorem dX2_recipe_194 : decode cX2_recipe 194 = .ok (.istore 5, 2) := by decide +kernel
theorem dX2_recipe_196 : decode cX2_recipe 196 = .ok (.iload 5, 2) := by decide +kernel
theorem dX2_recipe_198 : decode cX2_recipe 198 = .ok (.iconst 3, 1) := by decide +kernel
theorem dX2_recipe_199 : decode cX2_recipe 199 = .ok (.if_icmp .ge 87, 3) := by decide +kernel
theorem dX2_recipe_202 : decode cX2_recipe 202 = .ok (.aload_n 0, 1) := by decide +kernel
theorem dX2_recipe_203 : decode cX2_recipe 203 = .ok (.getfield 78, 3) := by decide +kernel
theorem dX2_recipe_206 : decode cX2_recipe 206 = .ok (.iconst 3, 1) := by decide +kernel
theorem dX2_recipe_207 : decode cX2_recipe 207 = .ok (.iload 4, 2) := by decide +kernel
theorem dX2_recipe_209 : decode cX2_recipe 209 = .ok (.imul, 1) := by decide +kernel
theorem dX2_recipe_210 : decode cX2_recipe 210 = .ok (.iload 5, 2) := by decide +kernel
theorem dX2_recipe_212 : decode cX2_recipe 212 = .ok (.iadd, 1) := by decide +kernel
theorem dX2_recipe_213 : decode cX2_recipe 213 = .ok (.aload_n 0, 1) := by decide +kernel
theorem dX2_recipe_214 : decode cX2_recipe 214 = .ok (.getfield 78, 3) := by decide +kernel
theorem dX2_recipe_217 : decode cX2_recipe 217 = .ok (.iconst 3, 1) := by decide +kernel
theorem dX2_recipe_218 : decode cX2_recipe 218 = .ok (.bipush 100, 2) := by decide +kernel
theorem dX2_recipe_220 : decode cX2_recipe 220 = .ok (.iload_n 3, 1) := by decide +kernel
theorem dX2_recipe_221 : decode cX2_recipe 221 = .ok (.iadd, 1) := by decide +kernel
theorem dX2_recipe_222 : decode cX2_recipe 222 = .ok (.imul, 1) := by decide +kernel
theorem dX2_recipe_223 : decode cX2_recipe 223 = .ok (.iload 5, 2) := by decide +kernel
theorem dX2_recipe_225 : decode cX2_recipe 225 = .ok (.iadd, 1) := by decide +kernel
theorem dX2_recipe_226 : decode cX2_recipe 226 = .ok (.iaload, 1) := by decide +kernel
theorem dX2_recipe_227 : decode cX2_recipe 227 = .ok (.iastore, 1) := by decide +kernel
theorem dX2_recipe_228 : decode cX2_recipe 228 = .ok (.aload_n 0, 1) := by decide +kernel
theorem dX2_recipe_229 : decode cX2_recipe 229 = .ok (.getfield 81, 3) := by decide +kernel
theorem dX2_recipe_232 : decode cX2_recipe 232 = .ok (.iconst 3, 1) := by decide +kernel
theorem dX2_recipe_233 : decode cX2_recipe 233 = .ok (.iload 4, 2) := by decide +kernel
theorem dX2_recipe_235 : decode cX2_recipe 235 = .ok (.imul, 1) := by decide +kernel
theorem dX2_recipe_236 : decode cX2_recipe 236 = .ok (.iload 5, 2) := by decide +kernel
theorem dX2_recipe_238 : decode cX2_recipe 238 = .ok (.iadd, 1) := by decide +kernel
theorem dX2_recipe_239 : decode cX2_recipe 239 = .ok (.aload_n 0, 1) := by decide +kernel
theorem dX2_recipe_240 : decode cX2_recipe 240 = .ok (.getfield 81, 3) := by decide +kernel
theorem dX2_recipe_243 : decode cX2_recipe 243 = .ok (.iconst 3, 1) := by decide +kernel
theorem dX2_recipe_244 : decode cX2_recipe 244 = .ok (.bipush 100, 2) := by decide +kernel
theorem dX2_recipe_246 : decode cX2_recipe 246 = .ok (.iload_n 3, 1) := by decide +kernel
theorem dX2_recipe_247 : decode cX2_recipe 247 = .ok (.iadd, 1) := by decide +kernel
theorem dX2_recipe_248 : decode cX2_recipe 248 = .ok (.imul, 1) := by decide +kernel
theorem dX2_recipe_249 : decode cX2_recipe 249 = .ok (.iload 5, 2) := by decide +kernel
theorem dX2_recipe_251 : decode cX2_recipe 251 = .ok (.iadd, 1) := by decide +kernel
theorem dX2_recipe_252 : decode cX2_recipe 252 = .ok (.iaload, 1) := by decide +kernel
theorem dX2_recipe_253 : decode cX2_recipe 253 = .ok (.iastore, 1) := by decide +kernel
theorem dX2_recipe_254 : decode cX2_recipe 254 = .ok (.aload_n 0, 1) := by decide +kernel
theorem dX2_recipe_255 : decode cX2_recipe 255 = .ok (.getfield 84, 3) := by decide +kernel
theorem dX2_recipe_258 : decode cX2_recipe 258 = .ok (.iconst 3, 1) := by decide +kernel
theorem dX2_recipe_259 : decode cX2_recipe 259 = .ok (.iload 4, 2) := by decide +kernel
theorem dX2_recipe_261 : decode cX2_recipe 261 = .ok (.imul, 1) := by decide +kernel
theorem dX2_recipe_262 : decode cX2_recipe 262 = .ok (.iload 5, 2) := by decide +kernel
theorem dX2_recipe_264 : decode cX2_recipe 264 = .ok (.iadd, 1) := by decide +kernel
theorem dX2_recipe_265 : decode cX2_recipe 265 = .ok (.aload_n 0, 1) := by decide +kernel
theorem dX2_recipe_266 : decode cX2_recipe 266 = .ok (.getfield 84, 3) := by decide +kernel
theorem dX2_recipe_269 : decode cX2_recipe 269 = .ok (.iconst 3, 1) := by decide +kernel
theorem dX2_recipe_270 : decode cX2_recipe 270 = .ok (.bipush 100, 2) := by decide +kernel
theorem dX2_recipe_272 : decode cX2_recipe 272 = .ok (.iload_n 3, 1) := by decide +kernel
theorem dX2_recipe_273 : decode cX2_recipe 273 = .ok (.iadd, 1) := by decide +kernel
theorem dX2_recipe_274 : decode cX2_recipe 274 = .ok (.imul, 1) := by decide +kernel
theorem dX2_recipe_275 : decode cX2_recipe 275 = .ok (.iload 5, 2) := by decide +kernel
theorem dX2_recipe_277 : decode cX2_recipe 277 = .ok (.iadd, 1) := by decide +kernel
theorem dX2_recipe_278 : decode cX2_recipe 278 = .ok (.iaload, 1) := by decide +kernel
theorem dX2_recipe_279 : decode cX2_recipe 279 = .ok (.iastore, 1) := by decide +kernel
theorem dX2_recipe_280 : decode cX2_recipe 280 = .ok (.iinc 5 1, 3) := by decide +kernel
theorem dX2_recipe_283 : decode cX2_recipe 283 = .ok (.goto (-87), 3) := by decide +kernel
theorem dX2_recipe_286 : decode cX2_recipe 286 = .ok (.iinc 3 1, 3) := by decide +kernel
theorem dX2_recipe_289 : decode cX2_recipe 289 = .ok (.goto (-161), 3) := by decide +kernel
theorem dX2_recipe_292 : decode cX2_recipe 292 = .ok (.aload_n 0, 1) := by decide +kernel
theorem dX2_recipe_293 : decode cX2_recipe 293 = .ok (.dup, 1) := by decide +kernel
theorem dX2_recipe_294 : decode cX2_recipe 294 = .ok (.getfield 245, 3) := by decide +kernel
theorem dX2_recipe_297 : decode cX2_recipe 297 = .ok (.iconst 1, 1) := by decide +kernel
theorem dX2_recipe_298 : decode cX2_recipe 298 = .ok (.iadd, 1) := by decide +kernel
theorem dX2_recipe_299 : decode cX2_recipe 299 = .ok (.putfield 245, 3) := by decide +kernel
theorem dX2_recipe_302 : decode cX2_recipe 302 = .ok (.aload_n 0, 1) := by decide +kernel
theorem dX2_recipe_303 : decode cX2_recipe 303 = .ok (.getfield 245, 3) := by decide +kernel
theorem dX2_recipe_306 : decode cX2_recipe 306 = .ok (.iconst 1, 1) := by decide +kernel
theorem dX2_recipe_307 : decode cX2_recipe 307 = .ok (.isub, 1) := by decide +kernel
theorem dX2_recipe_308 : decode cX2_recipe 308 = .ok (.ireturn, 1) := by decide +kernel
theorem dX2_token_0 : decode cX2_token 0 = .ok (.aload_n 0, 1) := by decide +kernel
theorem dX2_token_1 : decode cX2_token 1 = .ok (.aload_n 0, 1) := by decide +kernel
theorem dX2_token_2 : decode cX2_token 2 = .ok (.getfield 173, 3) := by decide +kernel
theorem dX2_token_5 : decode cX2_token 5 = .ok (.putfield 176, 3) := by decide +kernel
theorem dX2_token_8 : decode cX2_token 8 = .ok (.aload_n 0, 1) := by decide +kernel
theorem dX2_token_9 : decode cX2_token 9 = .ok (.aload_n 0, 1) := by decide +kernel
theorem dX2_token_10 : decode cX2_token 10 = .ok (.getfield 176, 3) := by decide +kernel
theorem dX2_token_13 : decode cX2_token 13 = .ok (.invokevirtual 179, 3) := by decide +kernel
theorem dX2_token_16 : decode cX2_token 16 = .ok (.bipush 32, 2) := by decide +kernel
theorem dX2_token_18 : decode cX2_token 18 = .ok (.if_icmp .eq 16, 3) := by decide +kernel
theorem dX2_token_21 : decode cX2_token 21 = .ok (.aload_n 0, 1) := by decide +kernel
theorem dX2_token_22 : decode cX2_token 22 = .ok (.aload_n 0, 1) := by decide +kernel
theorem dX2_token_23 : decode cX2_token 23 = .ok (.getfield 176, 3) := by decide +kernel
theorem dX2_token_26 : decode cX2_token 26 = .ok (.invokevirtual 179, 3) := by decide +kernel
theorem dX2_token_29 : decode cX2_token 29 = .ok (.bipush 10, 2) := by decide +kernel
theorem dX2_token_31 : decode cX2_token 31 = .ok (.if_icmp .ne 16, 3) := by decide +kernel
theorem dX2_token_34 : decode cX2_token 34 = .ok (.aload_n 0, 1) := by decide +kernel
theorem dX2_token_35 : decode cX2_token 35 = .ok (.dup, 1) := by decide +kernel
theorem dX2_token_36 : decode cX2_token 36 = .ok (.getfield 176, 3) := by decide +kernel
theorem dX2_token_39 : decode cX2_token 39 = .ok (.iconst 1, 1) := by decide +kernel
theorem dX2_token_40 : decode cX2_token 40 = .ok (.iadd, 1) := by decide +kernel
theorem dX2_token_41 : decode cX2_token 41 = .ok (.putfield 176, 3) := by decide +kernel
theorem dX2_token_44 : decode cX2_token 44 = .ok (.goto (-36), 3) := by decide +kernel
theorem dX2_token_47 : decode cX2_token 47 = .ok (.aload_n 0, 1) := by decide +kernel
theorem dX2_token_48 : decode cX2_token 48 = .ok (.aload_n 0, 1) := by decide +kernel
theorem dX2_token_49 : decode cX2_token 49 = .ok (.getfield 176, 3) := by decide +kernel
theorem dX2_token_52 : decode cX2_token 52 = .ok (.putfield 173, 3) := by decide +kernel
theorem dX2_token_55 : decode cX2_token 55 = .ok (.aload_n 0, 1) := by decide +kernel
theorem dX2_token_56 : decode cX2_token 56 = .ok (.aload_n 0, 1) := by decide +kernel
theorem dX2_token_57 : decode cX2_token 57 = .ok (.getfield 176, 3) := by decide +kernel
theorem dX2_token_60 : decode cX2_token 60 = .ok (.invokevirtual 179, 3) := by decide +kernel
theorem dX2_token_63 : decode cX2_token 63 = .ok (.istore_n 1, 1) := by decide +kernel
theorem dX2_token_64 : decode cX2_token 64 = .ok (.aload_n 0, 1) := by decide +kernel
theorem dX2_token_65 : decode cX2_token 65 = .ok (.getfield 176, 3) := by decide +kernel
theorem dX2_token_68 : decode cX2_token 68 = .ok (.aload_n 0, 1) := by decide +kernel
theorem dX2_token_69 : decode cX2_token 69 = .ok (.getfield 170, 3) := by decide +kernel
theorem dX2_token_72 : decode cX2_token 72 = .ok (.if_icmp .lt 11, 3) := by decide +kernel
theorem dX2_token_75 : decode cX2_token 75 = .ok (.aload_n 0, 1) := by decide +kernel
theorem dX2_token_76 : decode cX2_token 76 = .ok (.iconst 0, 1) := by decide +kernel
theorem dX2_token_77 : decode cX2_token 77 = .ok (.putfield 182, 3) := by decide +kernel
theorem dX2_token_80 : decode cX2_token 80 = .ok (.goto 228, 3) := by decide +kernel
theorem dX2_token_83 : decode cX2_token 83 = .ok (.iload_n 1, 1) := by decide +kernel
theorem dX2_token_84 : decode cX2_token 84 = .ok (.bipush 97, 2) := by decide +kernel
theorem dX2_token_86 : decode cX2_token 86 = .ok (.bipush 122, 2) := by decide +kernel
theorem dX2_token_88 : decode cX2_token 88 = .ok (.invokestatic 128, 3) := by decide +kernel
theorem dX2_token_91 : decode cX2_token 91 = .ok (.ifCond .eq 60, 3) := by decide +kernel
theorem dX2_token_94 : decode cX2_token 94 = .ok (.aload_n 0, 1) := by decide +kernel
theorem dX2_token_95 : decode cX2_token 95 = .ok (.aload_n 0, 1) := by decide +kernel
theorem dX2_token_96 : decode cX2_token 96 = .ok (.getfield 173, 3) := by decide +kernel
theorem dX2_token_99 : decode cX2_token 99 = .ok (.invokevirtual 179, 3) := by decide +kernel
theorem dX2_token_102 : decode cX2_token 102 = .ok (.bipush 97, 2) := by decide +kernel
theorem dX2_token_104 : decode cX2_token 104 = .ok (.bipush 122, 2) := by decide +kernel
theorem dX2_token_106 : decode cX2_token 106 = .ok (.invokestatic 128, 3) := by decide +kernel
theorem dX2_token_109 : decode cX2_token 109 = .ok (.ifCond .eq 16, 3) := by decide +kernel
theorem dX2_token_112 : decode cX2_token 112 = .ok (.aload_n 0, 1) := by decide +kernel
theorem dX2_token_113 : decode cX2_token 113 = .ok (.dup, 1) := by decide +kernel
theorem dX2_token_114 : decode cX2_token 114 = .ok (.getfield 173, 3) := by decide +kernel
theorem dX2_token_117 : decode cX2_token 117 = .ok (.iconst 1, 1) := by decide +kernel
theorem dX2_token_118 : decode cX2_token 118 = .ok (.iadd, 1) := by decide +kernel
theorem dX2_token_119 : decode cX2_token 119 = .ok (.putfield 173, 3) := by decide +kernel
theorem dX2_token_122 : decode cX2_token 122 = .ok (.goto (-28), 3) := by decide +kernel
theorem dX2_token_125 : decode cX2_token 125 = .ok (.aload_n 0, 1) := by decide +kernel
theorem dX2_token_126 : decode cX2_token 126 = .ok (.aload_n 0, 1) := by decide +kernel
theorem dX2_token_127 : decode cX2_token 127 = .ok (.getfield 173, 3) := by decide +kernel
theorem dX2_token_130 : decode cX2_token 130 = .ok (.aload_n 0, 1) := by decide +kernel
theorem dX2_token_131 : decode cX2_token 131 = .ok (.getfield 176, 3) := by decide +kernel
theorem dX2_token_134 : decode cX2_token 134 = .ok (.isub, 1) := by decide +kernel
theorem dX2_token_135 : decode cX2_token 135 = .ok (.bipush 8, 2) := by decide +kernel
theorem dX2_token_137 : decode cX2_token 137 = .ok (.if_icmp .le 7, 3) := by decide +kernel
theorem dX2_token_140 : decode cX2_token 140 = .ok (.iconst 4, 1) := by decide +kernel
theorem dX2_token_141 : decode cX2_token 141 = .ok (.goto 4, 3) := by decide +kernel
theorem dX2_token_144 : decode cX2_token 144 = .ok (.iconst 1, 1) := by decide +kernel
theorem dX2_token_145 : decode cX2_token 145 = .ok (.putfield 182, 3) := by decide +kernel
theorem dX2_token_148 : decode cX2_token 148 = .ok (.goto 160, 3) := by decide +kernel
theorem dX2_token_151 : decode cX2_token 151 = .ok (.iload_n 1, 1) := by decide +kernel
theorem dX2_token_152 : decode cX2_token 152 = .ok (.bipush 48, 2) := by decide +kernel
theorem dX2_token_154 : decode cX2_token 154 = .ok (.bipush 57, 2) := by decide +kernel
theorem dX2_token_156 : decode cX2_token 156 = .ok (.invokestatic 128, 3) := by decide +kernel
theorem dX2_token_159 : decode cX2_token 159 = .ok (.ifCond .eq 100, 3) := by decide +kernel
theorem dX2_token_162 : decode cX2_token 162 = .ok (.aload_n 0, 1) := by decide +kernel
theorem dX2_token_163 : decode cX2_token 163 = .ok (.iconst 0, 1) := by decide +kernel
theorem dX2_token_164 : decode cX2_token 164 = .ok (.putfield 185, 3) := by decide +kernel
theorem dX2_token_167 : decode cX2_token 167 = .ok (.aload_n 0, 1) := by decide +kernel
theorem dX2_token_168 : decode cX2_token 168 = .ok (.aload_n 0, 1) := by decide +kernel
theorem dX2_token_169 : decode cX2_token 169 = .ok (.getfield 173, 3) := by decide +kernel
theorem dX2_token_172 : decode cX2_token 172 = .ok (.invokevirtual 179, 3) := by decide +kernel
theorem dX2_token_175 : decode cX2_token 175 = .ok (.bipush 48, 2) := by decide +kernel
theorem dX2_token_177 : decode cX2_token 177 = .ok (.bipush 57, 2) := by decide +kernel
theorem dX2_token_179 : decode cX2_token 179 = .ok (.invokestatic 128, 3) := by decide +kernel
theorem dX2_token_182 : decode cX2_token 182 = .ok (.ifCond .eq 52, 3) := by decide +kernel
theorem dX2_token_185 : decode cX2_token 185 = .ok (.aload_n 0, 1) := by decide +kernel
theorem dX2_token_186 : decode cX2_token 186 = .ok (.getfield 173, 3) := by decide +kernel
theorem dX2_token_189 : decode cX2_token 189 = .ok (.aload_n 0, 1) := by decide +kernel
theorem dX2_token_190 : decode cX2_token 190 = .ok (.getfield 176, 3) := by decide +kernel
theorem dX2_token_193 : decode cX2_token 193 = .ok (.isub, 1) := by decide +kernel
theorem dX2_token_194 : decode cX2_token 194 = .ok (.iconst 4, 1) := by decide +kernel
theorem dX2_token_195 : decode cX2_token 195 = .ok (.if_icmp .ge 26, 3) := by decide +kernel
theorem dX2_token_198 : decode cX2_token 198 = .ok (.aload_n 0, 1) := by decide +kernel
theorem dX2_token_199 : decode cX2_token 199 = .ok (.bipush 10, 2) := by decide +kernel
theorem dX2_token_201 : decode cX2_token 201 = .ok (.aload_n 0, 1) := by decide +kernel
theorem dX2_token_202 : decode cX2_token 202 = .ok (.getfield 185, 3) := by decide +kernel
theorem dX2_token_205 : decode cX2_token 205 = .ok (.imul, 1) := by decide +kernel
theorem dX2_token_206 : decode cX2_token 206 = .ok (.aload_n 0, 1) := by decide +kernel
theorem dX2_token_207 : decode cX2_token 207 = .ok (.aload_n 0, 1) := by decide +kernel
theorem dX2_token_208 : decode cX2_token 208 = .ok (.getfield 173, 3) := by decide +kernel
theorem dX2_token_211 : decode cX2_token 211 = .ok (.invokevirtual 179, 3) := by decide +kernel
theorem dX2_token_214 : decode cX2_token 214 = .ok (.iadd, 1) := by decide +kernel
theorem dX2_token_215 : decode cX2_token 215 = .ok (.bipush 48, 2) := by decide +kernel
theorem dX2_token_217 : decode cX2_token 217 = .ok (.isub, 1) := by decide +kernel
theorem dX2_token_218 : decode cX2_token 218 = .ok (.putfield 185, 3) := by decide +kernel
theorem dX2_token_221 : decode cX2_token 221 = .ok (.aload_n 0, 1) := by decide +kernel
theorem dX2_token_222 : decode cX2_token 222 = .ok (.dup, 1) := by decide +kernel
theorem dX2_token_223 : decode cX2_token 223 = .ok (.getfield 173, 3) := by decide +kernel
theorem dX2_token_226 : decode cX2_token 226 = .ok (.iconst 1, 1) := by decide +kernel
theorem dX2_token_227 : decode cX2_token 227 = .ok (.iadd, 1) := by decide +kernel
theorem dX2_token_228 : decode cX2_token 228 = .ok (.putfield 173, 3) := by decide +kernel
theorem dX2_token_231 : decode cX2_token 231 = .ok (.goto (-64), 3) := by decide +kernel
theorem dX2_token_234 : decode cX2_token 234 = .ok (.aload_n 0, 1) := by decide +kernel
theorem dX2_token_235 : decode cX2_token 235 = .ok (.aload_n 0, 1) := by decide +kernel
theorem dX2_token_236 : decode cX2_token 236 = .ok (.getfield 173, 3) := by decide +kernel
theorem dX2_token_239 : decode cX2_token 239 = .ok (.aload_n 0, 1) := by decide +kernel
theorem dX2_token_240 : decode cX2_token 240 = .ok (.getfield 176, 3) := by decide +kernel
theorem dX2_token_243 : decode cX2_token 243 = .ok (.isub, 1) := by decide +kernel
theorem dX2_token_244 : decode cX2_token 244 = .ok (.iconst 4, 1) := by decide +kernel
theorem dX2_token_245 : decode cX2_token 245 = .ok (.if_icmp .le 7, 3) := by decide +kernel
theorem dX2_token_248 : decode cX2_token 248 = .ok (.iconst 4, 1) := by decide +kernel
theorem dX2_token_249 : decode cX2_token 249 = .ok (.goto 4, 3) := by decide +kernel
theorem dX2_token_252 : decode cX2_token 252 = .ok (.iconst 2, 1) := by decide +kernel
theorem dX2_token_253 : decode cX2_token 253 = .ok (.putfield 182, 3) := by decide +kernel
theorem dX2_token_256 : decode cX2_token 256 = .ok (.goto 52, 3) := by decide +kernel
theorem dX2_token_259 : decode cX2_token 259 = .ok (.aload_n 0, 1) := by decide +kernel
theorem dX2_token_260 : decode cX2_token 260 = .ok (.dup, 1) := by decide +kernel
theorem dX2_token_261 : decode cX2_token 261 = .ok (.getfield 173, 3) := by decide +kernel
theorem dX2_token_264 : decode cX2_token 264 = .ok (.iconst 1, 1) := by decide +kernel
theorem dX2_token_265 : decode cX2_token 265 = .ok (.iadd, 1) := by decide +kernel
theorem dX2_token_266 : decode cX2_token 266 = .ok (.putfield 173, 3) := by decide +kernel
theorem dX2_token_269 : decode cX2_token 269 = .ok (.aload_n 0, 1) := by decide +kernel
theorem dX2_token_270 : decode cX2_token 270 = .ok (.iload_n 1, 1) := by decide +kernel
theorem dX2_token_271 : decode cX2_token 271 = .ok (.bipush 60, 2) := by decide +kernel
theorem dX2_token_273 : decode cX2_token 273 = .ok (.if_icmp .eq 27, 3) := by decide +kernel
theorem dX2_token_276 : decode cX2_token 276 = .ok (.iload_n 1, 1) := by decide +kernel
theorem dX2_token_277 : decode cX2_token 277 = .ok (.bipush 61, 2) := by decide +kernel
theorem dX2_token_279 : decode cX2_token 279 = .ok (.if_icmp .eq 21, 3) := by decide +kernel
theorem dX2_token_282 : decode cX2_token 282 = .ok (.iload_n 1, 1) := by decide +kernel
theorem dX2_token_283 : decode cX2_token 283 = .ok (.bipush 62, 2) := by decide +kernel
theorem dX2_token_285 : decode cX2_token 285 = .ok (.if_icmp .eq 15, 3) := by decide +kernel
theorem dX2_token_288 : decode cX2_token 288 = .ok (.iload_n 1, 1) := by decide +kernel
theorem dX2_token_289 : decode cX2_token 289 = .ok (.bipush 58, 2) := by decide +kernel
theorem dX2_token_291 : decode cX2_token 291 = .ok (.if_icmp .eq 9, 3) := by decide +kernel
theorem dX2_token_294 : decode cX2_token 294 = .ok (.iload_n 1, 1) := by decide +kernel
theorem dX2_token_295 : decode cX2_token 295 = .ok (.bipush 59, 2) := by decide +kernel
theorem dX2_token_297 : decode cX2_token 297 = .ok (.if_icmp .ne 7, 3) := by decide +kernel
theorem dX2_token_300 : decode cX2_token 300 = .ok (.iconst 3, 1) := by decide +kernel
theorem dX2_token_301 : decode cX2_token 301 = .ok (.goto 4, 3) := by decide +kernel
theorem dX2_token_304 : decode cX2_token 304 = .ok (.iconst 4, 1) := by decide +kernel
theorem dX2_token_305 : decode cX2_token 305 = .ok (.putfield 182, 3) := by decide +kernel
theorem dX2_token_308 : decode cX2_token 308 = .ok (.return_, 1) := by decide +kernel
theorem dX2_byteAt_0 : decode cX2_byteAt 0 = .ok (.iload_n 1, 1) := by decide +kernel
theorem dX2_byteAt_1 : decode cX2_byteAt 1 = .ok (.aload_n 0, 1) := by decide +kernel
theorem dX2_byteAt_2 : decode cX2_byteAt 2 = .ok (.getfield 170, 3) := by decide +kernel
theorem dX2_byteAt_5 : decode cX2_byteAt 5 = .ok (.if_icmp .ge 16, 3) := by decide +kernel
theorem dX2_byteAt_8 : decode cX2_byteAt 8 = .ok (.aload_n 0, 1) := by decide +kernel
theorem dX2_byteAt_9 : decode cX2_byteAt 9 = .ok (.getfield 87, 3) := by decide +kernel
theorem dX2_byteAt_12 : decode cX2_byteAt 12 = .ok (.iload_n 1, 1) := by decide +kernel
theorem dX2_byteAt_13 : decode cX2_byteAt 13 = .ok (.baload, 1) := by decide +kernel
theorem dX2_byteAt_14 : decode cX2_byteAt 14 = .ok (.sipush 255, 3) := by decide +kernel
theorem dX2_byteAt_17 : decode cX2_byteAt 17 = .ok (.iand, 1) := by decide +kernel
theorem dX2_byteAt_18 : decode cX2_byteAt 18 = .ok (.goto 4, 3) := by decide +kernel
theorem dX2_byteAt_21 : decode cX2_byteAt 21 = .ok (.iconst 0, 1) := by decide +kernel
theorem dX2_byteAt_22 : decode cX2_byteAt 22 = .ok (.ireturn, 1) := by decide +kernel
theorem dX2_rule_0 : decode cX2_rule 0 = .ok (.aload_n 0, 1) := by decide +kernel
theorem dX2_rule_1 : decode cX2_rule 1 = .ok (.ldc 228, 2) := by decide +kernel
theorem dX2_rule_3 : decode cX2_rule 3 = .ok (.invokevirtual 201, 3) := by decide +kernel
theorem dX2_rule_6 : decode cX2_rule 6 = .ok (.istore_n 1, 1) := by decide +kernel
theorem dX2_rule_7 : decode cX2_rule 7 = .ok (.aload_n 0, 1) := by decide +kernel
theorem dX2_rule_8 : decode cX2_rule 8 = .ok (.invokevirtual 230, 3) := by decide +kernel
theorem dX2_rule_11 : decode cX2_rule 11 = .ok (.istore_n 2, 1) := by decide +kernel
theorem dX2_rule_12 : decode cX2_rule 12 = .ok (.iload_n 1, 1) := by decide +kernel
theorem dX2_rule_13 : decode cX2_rule 13 = .ok (.ifCond .ne 14, 3) := by decide +kernel
theorem dX2_rule_16 : decode cX2_rule 16 = .ok (.iload_n 2, 1) := by decide +kernel
theorem dX2_rule_17 : decode cX2_rule 17 = .ok (.iconst (-1), 1) := by decide +kernel
theorem dX2_rule_18 : decode cX2_rule 18 = .ok (.if_icmp .ne 9, 3) := by decide +kernel
theorem dX2_rule_21 : decode cX2_rule 21 = .ok (.aload_n 0, 1) := by decide +kernel
theorem dX2_rule_22 : decode cX2_rule 22 = .ok (.iconst 1, 1) := by decide +kernel
theorem dX2_rule_23 : decode cX2_rule 23 = .ok (.invokevirtual 205, 3) := by decide +kernel
theorem dX2_rule_26 : decode cX2_rule 26 = .ok (.ireturn, 1) := by decide +kernel
theorem dX2_rule_27 : decode cX2_rule 27 = .ok (.aload_n 0, 1) := by decide +kernel
theorem dX2_rule_28 : decode cX2_rule 28 = .ok (.getfield 66, 3) := by decide +kernel
theorem dX2_rule_31 : decode cX2_rule 31 = .ok (.bipush 10, 2) := by decide +kernel
theorem dX2_rule_33 : decode cX2_rule 33 = .ok (.iaload, 1) := by decide +kernel
theorem dX2_rule_34 : decode cX2_rule 34 = .ok (.bipush 10, 2) := by decide +kernel
theorem dX2_rule_36 : decode cX2_rule 36 = .ok (.if_icmp .ne 9, 3) := by decide +kernel
theorem dX2_rule_39 : decode cX2_rule 39 = .ok (.aload_n 0, 1) := by decide +kernel
theorem dX2_rule_40 : decode cX2_rule 40 = .ok (.iconst 2, 1) := by decide +kernel
theorem dX2_rule_41 : decode cX2_rule 41 = .ok (.invokevirtual 205, 3) := by decide +kernel
theorem dX2_rule_44 : decode cX2_rule 44 = .ok (.ireturn, 1) := by decide +kernel
theorem dX2_rule_45 : decode cX2_rule 45 = .ok (.bipush 100, 2) := by decide +kernel
theorem dX2_rule_47 : decode cX2_rule 47 = .ok (.aload_n 0, 1) := by decide +kernel
theorem dX2_rule_48 : decode cX2_rule 48 = .ok (.getfield 66, 3) := by decide +kernel
theorem dX2_rule_51 : decode cX2_rule 51 = .ok (.bipush 10, 2) := by decide +kernel
theorem dX2_rule_53 : decode cX2_rule 53 = .ok (.iaload, 1) := by decide +kernel
theorem dX2_rule_54 : decode cX2_rule 54 = .ok (.iadd, 1) := by decide +kernel
theorem dX2_rule_55 : decode cX2_rule 55 = .ok (.istore_n 3, 1) := by decide +kernel
theorem dX2_rule_56 : decode cX2_rule 56 = .ok (.aload_n 0, 1) := by decide +kernel
theorem dX2_rule_57 : decode cX2_rule 57 = .ok (.getfield 75, 3) := by decide +kernel
theorem dX2_rule_60 : decode cX2_rule 60 = .ok (.iload_n 3, 1) := by decide +kernel
theorem dX2_rule_61 : decode cX2_rule 61 = .ok (.iconst 0, 1) := by decide +kernel
theorem dX2_rule_62 : decode cX2_rule 62 = .ok (.iastore, 1) := by decide +kernel
theorem dX2_rule_63 : decode cX2_rule 63 = .ok (.iload_n 1, 1) := by decide +kernel
theorem dX2_rule_64 : decode cX2_rule 64 = .ok (.ifCond .eq 63, 3) := by decide +kernel
theorem dX2_rule_67 : decode cX2_rule 67 = .ok (.iconst 1, 1) := by decide +kernel
theorem dX2_rule_68 : decode cX2_rule 68 = .ok (.istore 4, 2) := by decide +kernel
theorem dX2_rule_70 : decode cX2_rule 70 = .ok (.iload 4, 2) := by decide +kernel
theorem dX2_rule_72 : decode cX2_rule 72 = .ok (.ifCond .eq 28, 3) := by decide +kernel
theorem dX2_rule_75 : decode cX2_rule 75 = .ok (.aload_n 0, 1) := by decide +kernel
theorem dX2_rule_76 : decode cX2_rule 76 = .ok (.invokevirtual 208, 3) := by decide +kernel
theorem dX2_rule_79 : decode cX2_rule 79 = .ok (.aload_n 0, 1) := by decide +kernel
theorem dX2_rule_80 : decode cX2_rule 80 = .ok (.iload_n 3, 1) := by decide +kernel
theorem dX2_rule_81 : decode cX2_rule 81 = .ok (.invokevirtual 233, 3) := by decide +kernel
theorem dX2_rule_84 : decode cX2_rule 84 = .ok (.ifCond .ne 5, 3) := by decide +kernel
theorem dX2_rule_87 : decode cX2_rule 87 = .ok (.iconst 0, 1) := by decide +kernel
theorem dX2_rule_88 : decode cX2_rule 88 = .ok (.ireturn, 1) := by decide +kernel
theorem dX2_rule_89 : decode cX2_rule 89 = .ok (.aload_n 0, 1) := by decide +kernel
theorem dX2_rule_90 : decode cX2_rule 90 = .ok (.ldc 236, 2) := by decide +kernel
theorem dX2_rule_92 : decode cX2_rule 92 = .ok (.invokevirtual 201, 3) := by decide +kernel
theorem dX2_rule_95 : decode cX2_rule 95 = .ok (.istore 4, 2) := by decide +kernel
theorem dX2_rule_97 : decode cX2_rule 97 = .ok (.goto (-27), 3) := by decide +kernel
theorem dX2_rule_100 : decode cX2_rule 100 = .ok (.aload_n 0, 1) := by decide +kernel
theorem dX2_rule_101 : decode cX2_rule 101 = .ok (.ldc 238, 2) := by decide +kernel
theorem dX2_rule_103 : decode cX2_rule 103 = .ok (.invokevirtual 240, 3) := by decide +kernel
theorem dX2_rule_106 : decode cX2_rule 106 = .ok (.ifCond .ne 5, 3) := by decide +kernel
theorem dX2_rule_109 : decode cX2_rule 109 = .ok (.iconst 0, 1) := by decide +kernel
theorem dX2_rule_110 : decode cX2_rule 110 = .ok (.ireturn, 1) := by decide +kernel
theorem dX2_rule_111 : decode cX2_rule 111 = .ok (.aload_n 0, 1) := by decide +kernel
theorem dX2_rule_112 : decode cX2_rule 112 = .ok (.invokevirtual 230, 3) := by decide +kernel
theorem dX2_rule_115 : decode cX2_rule 115 = .ok (.istore_n 2, 1) := by decide +kernel
theorem dX2_rule_116 : decode cX2_rule 116 = .ok (.iload_n 2, 1) := by decide +kernel
theorem dX2_rule_117 : decode cX2_rule 117 = .ok (.iconst (-1), 1) := by decide +kernel
theorem dX2_rule_118 : decode cX2_rule 118 = .ok (.if_icmp .ne 9, 3) := by decide +kernel
theorem dX2_rule_121 : decode cX2_rule 121 = .ok (.aload_n 0, 1) := by decide +kernel
theorem dX2_rule_122 : decode cX2_rule 122 = .ok (.iconst 1, 1) := by decide +kernel
theorem dX2_rule_123 : decode cX2_rule 123 = .ok (.invokevirtual 205, 3) := by decide +kernel
theorem dX2_rule_126 : decode cX2_rule 126 = .ok (.ireturn, 1) := by decide +kernel
theorem dX2_rule_127 : decode cX2_rule 127 = .ok (.aload_n 0, 1) := by decide +kernel
theorem dX2_rule_128 : decode cX2_rule 128 = .ok (.getfield 69, 3) := by decide +kernel
theorem dX2_rule_131 : decode cX2_rule 131 = .ok (.iload_n 3, 1) := by decide +kernel
theorem dX2_rule_132 : decode cX2_rule 132 = .ok (.iload_n 2, 1) := by decide +kernel
theorem dX2_rule_133 : decode cX2_rule 133 = .ok (.iastore, 1) := by decide +kernel
theorem dX2_rule_134 : decode cX2_rule 134 = .ok (.aload_n 0, 1) := by decide +kernel
theorem dX2_rule_135 : decode cX2_rule 135 = .ok (.invokevirtual 208, 3) := by decide +kernel
theorem dX2_rule_138 : decode cX2_rule 138 = .ok (.aload_n 0, 1) := by decide +kernel
theorem dX2_rule_139 : decode cX2_rule 139 = .ok (.getfield 72, 3) := by decide +kernel
theorem dX2_rule_142 : decode cX2_rule 142 = .ok (.iload_n 3, 1) := by decide +kernel
theorem dX2_rule_143 : decode cX2_rule 143 = .ok (.iload_n 2, 1) := by decide +kernel
theorem dX2_rule_144 : decode cX2_rule 144 = .ok (.iconst 5, 1) := by decide +kernel
theorem dX2_rule_145 : decode cX2_rule 145 = .ok (.if_icmp .ne 10, 3) := by decide +kernel
theorem dX2_rule_148 : decode cX2_rule 148 = .ok (.aload_n 0, 1) := by decide +kernel
theorem dX2_rule_149 : decode cX2_rule 149 = .ok (.invokevirtual 225, 3) := by decide +kernel
theorem dX2_rule_152 : decode cX2_rule 152 = .ok (.goto 4, 3) := by decide +kernel
theorem dX2_rule_155 : decode cX2_rule 155 = .ok (.iconst 0, 1) := by decide +kernel
theorem dX2_rule_156 : decode cX2_rule 156 = .ok (.iastore, 1) := by decide +kernel
theorem dX2_rule_157 : decode cX2_rule 157 = .ok (.aload_n 0, 1) := by decide +kernel
theorem dX2_rule_158 : decode cX2_rule 158 = .ok (.ldc 243, 2) := by decide +kernel
theorem dX2_rule_160 : decode cX2_rule 160 = .ok (.invokevirtual 240, 3) := by decide +kernel
theorem dX2_rule_163 : decode cX2_rule 163 = .ok (.ifCond .ne 5, 3) := by decide +kernel
theorem dX2_rule_166 : decode cX2_rule 166 = .ok (.iconst 0, 1) := by decide +kernel
theorem dX2_rule_167 : decode cX2_rule 167 = .ok (.ireturn, 1) := by decide +kernel
theorem dX2_rule_168 : decode cX2_rule 168 = .ok (.aload_n 0, 1) := by decide +kernel
theorem dX2_rule_169 : decode cX2_rule 169 = .ok (.getfield 66, 3) := by decide +kernel
theorem dX2_rule_172 : decode cX2_rule 172 = .ok (.bipush 10, 2) := by decide +kernel
theorem dX2_rule_174 : decode cX2_rule 174 = .ok (.dup2, 1) := by decide +kernel
theorem dX2_rule_175 : decode cX2_rule 175 = .ok (.iaload, 1) := by decide +kernel
theorem dX2_rule_176 : decode cX2_rule 176 = .ok (.iconst 1, 1) := by decide +kernel
theorem dX2_rule_177 : decode cX2_rule 177 = .ok (.iadd, 1) := by decide +kernel
theorem dX2_rule_178 : decode cX2_rule 178 = .ok (.iastore, 1) := by decide +kernel
theorem dX2_rule_179 : decode cX2_rule 179 = .ok (.iconst 1, 1) := by decide +kernel
theorem dX2_rule_180 : decode cX2_rule 180 = .ok (.ireturn, 1) := by decide +kernel
theorem dX2_is_0 : decode cX2_is 0 = .ok (.aload_n 0, 1) := by decide +kernel
theorem dX2_is_1 : decode cX2_is 1 = .ok (.getfield 188, 3) := by decide +kernel
theorem dX2_is_4 : decode cX2_is 4 = .ok (.ifCond .ne 23, 3) := by decide +kernel
theorem dX2_is_7 : decode cX2_is 7 = .ok (.aload_n 0, 1) := by decide +kernel
theorem dX2_is_8 : decode cX2_is 8 = .ok (.getfield 173, 3) := by decide +kernel
theorem dX2_is_11 : decode cX2_is 11 = .ok (.aload_n 0, 1) := by decide +kernel
theorem dX2_is_12 : decode cX2_is 12 = .ok (.getfield 176, 3) := by decide +kernel
theorem dX2_is_15 : decode cX2_is 15 = .ok (.isub, 1) := by decide +kernel
theorem dX2_is_16 : decode cX2_is 16 = .ok (.aload_n 1, 1) := by decide +kernel
theorem dX2_is_17 : decode cX2_is 17 = .ok (.invokevirtual 191, 3) := by decide +kernel
theorem dX2_is_20 : decode cX2_is 20 = .ok (.if_icmp .ne 7, 3) := by decide +kernel
theorem dX2_is_23 : decode cX2_is 23 = .ok (.iconst 1, 1) := by decide +kernel
theorem dX2_is_24 : decode cX2_is 24 = .ok (.goto 4, 3) := by decide +kernel
theorem dX2_is_27 : decode cX2_is 27 = .ok (.iconst 0, 1) := by decide +kernel
theorem dX2_is_28 : decode cX2_is 28 = .ok (.istore_n 2, 1) := by decide +kernel
theorem dX2_is_29 : decode cX2_is 29 = .ok (.iconst 0, 1) := by decide +kernel
theorem dX2_is_30 : decode cX2_is 30 = .ok (.istore_n 3, 1) := by decide +kernel
theorem dX2_is_31 : decode cX2_is 31 = .ok (.iload_n 3, 1) := by decide +kernel
theorem dX2_is_32 : decode cX2_is 32 = .ok (.aload_n 1, 1) := by decide +kernel
theorem dX2_is_33 : decode cX2_is 33 = .ok (.invokevirtual 191, 3) := by decide +kernel
theorem dX2_is_36 : decode cX2_is 36 = .ok (.if_icmp .ge 37, 3) := by decide +kernel
theorem dX2_is_39 : decode cX2_is 39 = .ok (.iload_n 2, 1) := by decide +kernel
theorem dX2_is_40 : decode cX2_is 40 = .ok (.ifCond .eq 33, 3) := by decide +kernel
theorem dX2_is_43 : decode cX2_is 43 = .ok (.aload_n 0, 1) := by decide +kernel
theorem dX2_is_44 : decode cX2_is 44 = .ok (.aload_n 0, 1) := by decide +kernel
theorem dX2_is_45 : decode cX2_is 45 = .ok (.getfield 176, 3) := by decide +kernel
theorem dX2_is_48 : decode cX2_is 48 = .ok (.iload_n 3, 1) := by decide +kernel
theorem dX2_is_49 : decode cX2_is 49 = .ok (.iadd, 1) := by decide +kernel
theorem dX2_is_50 : decode cX2_is 50 = .ok (.invokevirtual 179, 3) := by decide +kernel
theorem dX2_is_53 : decode cX2_is 53 = .ok (.aload_n 1, 1) := by decide +kernel
theorem dX2_is_54 : decode cX2_is 54 = .ok (.iload_n 3, 1) := by decide +kernel
theorem dX2_is_55 : decode cX2_is 55 = .ok (.invokevirtual 197, 3) := by decide +kernel
theorem dX2_is_58 : decode cX2_is 58 = .ok (.if_icmp .ne 7, 3) := by decide +kernel
theorem dX2_is_61 : decode cX2_is 61 = .ok (.iconst 1, 1) := by decide +kernel
theorem dX2_is_62 : decode cX2_is 62 = .ok (.goto 4, 3) := by decide +kernel
theorem dX2_is_65 : decode cX2_is 65 = .ok (.iconst 0, 1) := by decide +kernel
theorem dX2_is_66 : decode cX2_is 66 = .ok (.istore_n 2, 1) := by decide +kernel
theorem dX2_is_67 : decode cX2_is 67 = .ok (.iinc 3 1, 3) := by decide +kernel
theorem dX2_is_70 : decode cX2_is 70 = .ok (.goto (-39), 3) := by decide +kernel
theorem dX2_is_73 : decode cX2_is 73 = .ok (.iload_n 2, 1) := by decide +kernel
theorem dX2_is_74 : decode cX2_is 74 = .ok (.ireturn, 1) := by decide +kernel
theorem dX2_actAtHand_0 : decode cX2_actAtHand 0 = .ok (.aload_n 0, 1) := by decide +kernel
theorem dX2_actAtHand_1 : decode cX2_actAtHand 1 = .ok (.ldc 211, 2) := by decide +kernel
theorem dX2_actAtHand_3 : decode cX2_actAtHand 3 = .ok (.invokevirtual 213, 3) := by decide +kernel
theorem dX2_actAtHand_6 : decode cX2_actAtHand 6 = .ok (.ireturn, 1) := by decide +kernel
theorem dX2_which_0 : decode cX2_which 0 = .ok (.iconst 0, 1) := by decide +kernel
theorem dX2_which_1 : decode cX2_which 1 = .ok (.istore_n 2, 1) := by decide +kernel
theorem dX2_which_2 : decode cX2_which 2 = .ok (.iconst 0, 1) := by decide +kernel
theorem dX2_which_3 : decode cX2_which 3 = .ok (.istore_n 3, 1) := by decide +kernel
theorem dX2_which_4 : decode cX2_which 4 = .ok (.iconst 0, 1) := by decide +kernel
theorem dX2_which_5 : decode cX2_which 5 = .ok (.istore 4, 2) := by decide +kernel
theorem dX2_which_7 : decode cX2_which 7 = .ok (.iload 4, 2) := by decide +kernel
theorem dX2_which_9 : decode cX2_which 9 = .ok (.aload_n 1, 1) := by decide +kernel
theorem dX2_which_10 : decode cX2_which 10 = .ok (.invokevirtual 191, 3) := by decide +kernel
theorem dX2_which_13 : decode cX2_which 13 = .ok (.if_icmp .ge 128, 3) := by decide +kernel
theorem dX2_which_16 : decode cX2_which 16 = .ok (.aload_n 1, 1) := by decide +kernel
theorem dX2_which_17 : decode cX2_which 17 = .ok (.iload 4, 2) := by decide +kernel
theorem dX2_which_19 : decode cX2_which 19 = .ok (.invokevirtual 197, 3) := by decide +kernel
theorem dX2_which_22 : decode cX2_which 22 = .ok (.bipush 32, 2) := by decide +kernel
theorem dX2_which_24 : decode cX2_which 24 = .ok (.if_icmp .eq 6, 3) := by decide +kernel
theorem dX2_which_27 : decode cX2_which 27 = .ok (.goto 108, 3) := by decide +kernel
theorem dX2_which_30 : decode cX2_which 30 = .ok (.aload_n 0, 1) := by decide +kernel
theorem dX2_which_31 : decode cX2_which 31 = .ok (.getfield 182, 3) := by decide +kernel
theorem dX2_which_34 : decode cX2_which 34 = .ok (.iconst 1, 1) := by decide +kernel
theorem dX2_which_35 : decode cX2_which 35 = .ok (.if_icmp .ne 30, 3) := by decide +kernel
theorem dX2_which_38 : decode cX2_which 38 = .ok (.aload_n 0, 1) := by decide +kernel
theorem dX2_which_39 : decode cX2_which 39 = .ok (.getfield 188, 3) := by decide +kernel
theorem dX2_which_42 : decode cX2_which 42 = .ok (.ifCond .ne 23, 3) := by decide +kernel
theorem dX2_which_45 : decode cX2_which 45 = .ok (.aload_n 0, 1) := by decide +kernel
theorem dX2_which_46 : decode cX2_which 46 = .ok (.getfield 173, 3) := by decide +kernel
theorem dX2_which_49 : decode cX2_which 49 = .ok (.aload_n 0, 1) := by decide +kernel
theorem dX2_which_50 : decode cX2_which 50 = .ok (.getfield 176, 3) := by decide +kernel
theorem dX2_which_53 : decode cX2_which 53 = .ok (.isub, 1) := by decide +kernel
theorem dX2_which_54 : decode cX2_which 54 = .ok (.iload 4, 2) := by decide +kernel
theorem dX2_which_56 : decode cX2_which 56 = .ok (.iload_n 3, 1) := by decide +kernel
theorem dX2_which_57 : decode cX2_which 57 = .ok (.isub, 1) := by decide +kernel
theorem dX2_which_58 : decode cX2_which 58 = .ok (.if_icmp .ne 7, 3) := by decide +kernel
theorem dX2_which_61 : decode cX2_which 61 = .ok (.iconst 1, 1) := by decide +kernel
theorem dX2_which_62 : decode cX2_which 62 = .ok (.goto 4, 3) := by decide +kernel
theorem dX2_which_65 : decode cX2_which 65 = .ok (.iconst 0, 1) := by decide +kernel
theorem dX2_which_66 : decode cX2_which 66 = .ok (.istore 5, 2) := by decide +kernel
theorem dX2_which_68 : decode cX2_which 68 = .ok (.iconst 0, 1) := by decide +kernel
theorem dX2_which_69 : decode cX2_which 69 = .ok (.istore 6, 2) := by decide +kernel
theorem dX2_which_71 : decode cX2_which 71 = .ok (.iload 6, 2) := by decide +kernel
theorem dX2_which_73 : decode cX2_which 73 = .ok (.iload 4, 2) := by decide +kernel
theorem dX2_which_75 : decode cX2_which 75 = .ok (.iload_n 3, 1) := by decide +kernel
theorem dX2_which_76 : decode cX2_which 76 = .ok (.isub, 1) := by decide +kernel
theorem dX2_which_77 : decode cX2_which 77 = .ok (.if_icmp .ge 43, 3) := by decide +kernel
theorem dX2_which_80 : decode cX2_which 80 = .ok (.iload 5, 2) := by decide +kernel
theorem dX2_which_82 : decode cX2_which 82 = .ok (.ifCond .eq 38, 3) := by decide +kernel
theorem dX2_which_85 : decode cX2_which 85 = .ok (.aload_n 0, 1) := by decide +kernel
theorem dX2_which_86 : decode cX2_which 86 = .ok (.aload_n 0, 1) := by decide +kernel
theorem dX2_which_87 : decode cX2_which 87 = .ok (.getfield 176, 3) := by decide +kernel
theorem dX2_which_90 : decode cX2_which 90 = .ok (.iload 6, 2) := by decide +kernel
theorem dX2_which_92 : decode cX2_which 92 = .ok (.iadd, 1) := by decide +kernel
theorem dX2_which_93 : decode cX2_which 93 = .ok (.invokevirtual 179, 3) := by decide +kernel
theorem dX2_which_96 : decode cX2_which 96 = .ok (.aload_n 1, 1) := by decide +kernel
theorem dX2_which_97 : decode cX2_which 97 = .ok (.iload_n 3, 1) := by decide +kernel
theorem dX2_which_98 : decode cX2_which 98 = .ok (.iload 6, 2) := by decide +kernel
theorem dX2_which_100 : decode cX2_which 100 = .ok (.iadd, 1) := by decide +kernel
theorem dX2_which_101 : decode cX2_which 101 = .ok (.invokevirtual 197, 3) := by decide +kernel
theorem dX2_which_104 : decode cX2_which 104 = .ok (.if_icmp .ne 7, 3) := by decide +kernel
theorem dX2_which_107 : decode cX2_which 107 = .ok (.iconst 1, 1) := by decide +kernel
theorem dX2_which_108 : decode cX2_which 108 = .ok (.goto 4, 3) := by decide +kernel
theorem dX2_which_111 : decode cX2_which 111 = .ok (.iconst 0, 1) := by decide +kernel
theorem dX2_which_112 : decode cX2_which 112 = .ok (.istore 5, 2) := by decide +kernel
theorem dX2_which_114 : decode cX2_which 114 = .ok (.iinc 6 1, 3) := by decide +kernel
theorem dX2_which_117 : decode cX2_which 117 = .ok (.goto (-46), 3) := by decide +kernel
theorem dX2_which_120 : decode cX2_which 120 = .ok (.iload 5, 2) := by decide +kernel
theorem dX2_which_122 : decode cX2_which 122 = .ok (.ifCond .eq 5, 3) := by decide +kernel
theorem dX2_which_125 : decode cX2_which 125 = .ok (.iload_n 2, 1) := by decide +kernel
theorem dX2_which_126 : decode cX2_which 126 = .ok (.ireturn, 1) := by decide +kernel
theorem dX2_which_127 : decode cX2_which 127 = .ok (.iinc 2 1, 3) := by decide +kernel
theorem dX2_which_130 : decode cX2_which 130 = .ok (.iload 4, 2) := by decide +kernel
theorem dX2_which_132 : decode cX2_which 132 = .ok (.iconst 1, 1) := by decide +kernel
theorem dX2_which_133 : decode cX2_which 133 = .ok (.iadd, 1) := by decide +kernel
theorem dX2_which_134 : decode cX2_which 134 = .ok (.istore_n 3, 1) := by decide +kernel
theorem dX2_which_135 : decode cX2_which 135 = .ok (.iinc 4 1, 3) := by decide +kernel
theorem dX2_which_138 : decode cX2_which 138 = .ok (.goto (-131), 3) := by decide +kernel
theorem dX2_which_141 : decode cX2_which 141 = .ok (.iconst (-1), 1) := by decide +kernel
theorem dX2_which_142 : decode cX2_which 142 = .ok (.ireturn, 1) := by decide +kernel
theorem dX2_wrong_0 : decode cX2_wrong 0 = .ok (.aload_n 0, 1) := by decide +kernel
theorem dX2_wrong_1 : decode cX2_wrong 1 = .ok (.getfield 188, 3) := by decide +kernel
theorem dX2_wrong_4 : decode cX2_wrong 4 = .ok (.ifCond .ne 16, 3) := by decide +kernel
theorem dX2_wrong_7 : decode cX2_wrong 7 = .ok (.aload_n 0, 1) := by decide +kernel
theorem dX2_wrong_8 : decode cX2_wrong 8 = .ok (.iload_n 1, 1) := by decide +kernel
theorem dX2_wrong_9 : decode cX2_wrong 9 = .ok (.putfield 188, 3) := by decide +kernel
theorem dX2_wrong_12 : decode cX2_wrong 12 = .ok (.aload_n 0, 1) := by decide +kernel
theorem dX2_wrong_13 : decode cX2_wrong 13 = .ok (.aload_n 0, 1) := by decide +kernel
theorem dX2_wrong_14 : decode cX2_wrong 14 = .ok (.getfield 176, 3) := by decide +kernel
theorem dX2_wrong_17 : decode cX2_wrong 17 = .ok (.putfield 90, 3) := by decide +kernel
theorem dX2_wrong_20 : decode cX2_wrong 20 = .ok (.iconst 0, 1) := by decide +kernel
theorem dX2_wrong_21 : decode cX2_wrong 21 = .ok (.ireturn, 1) := by decide +kernel
theorem dX2_condition_0 : decode cX2_condition 0 = .ok (.aload_n 0, 1) := by decide +kernel
theorem dX2_condition_1 : decode cX2_condition 1 = .ok (.ldc 217, 2) := by decide +kernel
theorem dX2_condition_3 : decode cX2_condition 3 = .ok (.invokevirtual 213, 3) := by decide +kernel
theorem dX2_condition_6 : decode cX2_condition 6 = .ok (.istore_n 2, 1) := by decide +kernel
theorem dX2_condition_7 : decode cX2_condition 7 = .ok (.iload_n 2, 1) := by decide +kernel
theorem dX2_condition_8 : decode cX2_condition 8 = .ok (.iconst (-1), 1) := by decide +kernel
theorem dX2_condition_9 : decode cX2_condition 9 = .ok (.if_icmp .ne 9, 3) := by decide +kernel
theorem dX2_condition_12 : decode cX2_condition 12 = .ok (.aload_n 0, 1) := by decide +kernel
theorem dX2_condition_13 : decode cX2_condition 13 = .ok (.iconst 1, 1) := by decide +kernel
theorem dX2_condition_14 : decode cX2_condition 14 = .ok (.invokevirtual 205, 3) := by decide +kernel
theorem dX2_condition_17 : decode cX2_condition 17 = .ok (.ireturn, 1) := by decide +kernel
theorem dX2_condition_18 : decode cX2_condition 18 = .ok (.aload_n 0, 1) := by decide +kernel
theorem dX2_condition_19 : decode cX2_condition 19 = .ok (.getfield 75, 3) := by decide +kernel
theorem dX2_condition_22 : decode cX2_condition 22 = .ok (.iload_n 1, 1) := by decide +kernel
theorem dX2_condition_23 : decode cX2_condition 23 = .ok (.iaload, 1) := by decide +kernel
theorem dX2_condition_24 : decode cX2_condition 24 = .ok (.iconst 3, 1) := by decide +kernel
theorem dX2_condition_25 : decode cX2_condition 25 = .ok (.if_icmp .ne 9, 3) := by decide +kernel
theorem dX2_condition_28 : decode cX2_condition 28 = .ok (.aload_n 0, 1) := by decide +kernel
theorem dX2_condition_29 : decode cX2_condition 29 = .ok (.iconst 2, 1) := by decide +kernel
theorem dX2_condition_30 : decode cX2_condition 30 = .ok (.invokevirtual 205, 3) := by decide +kernel
theorem dX2_condition_33 : decode cX2_condition 33 = .ok (.ireturn, 1) := by decide +kernel
theorem dX2_condition_34 : decode cX2_condition 34 = .ok (.iconst 3, 1) := by decide +kernel
theorem dX2_condition_35 : decode cX2_condition 35 = .ok (.iload_n 1, 1) := by decide +kernel
theorem dX2_condition_36 : decode cX2_condition 36 = .ok (.imul, 1) := by decide +kernel
theorem dX2_condition_37 : decode cX2_condition 37 = .ok (.aload_n 0, 1) := by decide +kernel
theorem dX2_condition_38 : decode cX2_condition 38 = .ok (.getfield 75, 3) := by decide +kernel
theorem dX2_condition_41 : decode cX2_condition 41 = .ok (.iload_n 1, 1) := by decide +kernel
theorem dX2_condition_42 : decode cX2_condition 42 = .ok (.iaload, 1) := by decide +kernel
theorem dX2_condition_43 : decode cX2_condition 43 = .ok (.iadd, 1) := by decide +kernel
theorem dX2_condition_44 : decode cX2_condition 44 = .ok (.istore_n 3, 1) := by decide +kernel
theorem dX2_condition_45 : decode cX2_condition 45 = .ok (.aload_n 0, 1) := by decide +kernel
theorem dX2_condition_46 : decode cX2_condition 46 = .ok (.invokevirtual 208, 3) := by decide +kernel
theorem dX2_condition_49 : decode cX2_condition 49 = .ok (.aload_n 0, 1) := by decide +kernel
theorem dX2_condition_50 : decode cX2_condition 50 = .ok (.getfield 78, 3) := by decide +kernel
theorem dX2_condition_53 : decode cX2_condition 53 = .ok (.iload_n 3, 1) := by decide +kernel
theorem dX2_condition_54 : decode cX2_condition 54 = .ok (.iload_n 2, 1) := by decide +kernel
theorem dX2_condition_55 : decode cX2_condition 55 = .ok (.iastore, 1) := by decide +kernel
theorem dX2_condition_56 : decode cX2_condition 56 = .ok (.aload_n 0, 1) := by decide +kernel
theorem dX2_condition_57 : decode cX2_condition 57 = .ok (.ldc 219, 2) := by decide +kernel
theorem dX2_condition_59 : decode cX2_condition 59 = .ok (.invokevirtual 201, 3) := by decide +kernel
theorem dX2_condition_62 : decode cX2_condition 62 = .ok (.ifCond .ne 27, 3) := by decide +kernel
theorem dX2_condition_65 : decode cX2_condition 65 = .ok (.aload_n 0, 1) := by decide +kernel
theorem dX2_condition_66 : decode cX2_condition 66 = .ok (.ldc 221, 2) := by decide +kernel
theorem dX2_condition_68 : decode cX2_condition 68 = .ok (.invokevirtual 201, 3) := by decide +kernel
theorem dX2_condition_71 : decode cX2_condition 71 = .ok (.ifCond .ne 18, 3) := by decide +kernel
theorem dX2_condition_74 : decode cX2_condition 74 = .ok (.aload_n 0, 1) := by decide +kernel
theorem dX2_condition_75 : decode cX2_condition 75 = .ok (.ldc 223, 2) := by decide +kernel
theorem dX2_condition_77 : decode cX2_condition 77 = .ok (.invokevirtual 201, 3) := by decide +kernel
theorem dX2_condition_80 : decode cX2_condition 80 = .ok (.ifCond .ne 9, 3) := by decide +kernel
theorem dX2_condition_83 : decode cX2_condition 83 = .ok (.aload_n 0, 1) := by decide +kernel
theorem dX2_condition_84 : decode cX2_condition 84 = .ok (.iconst 1, 1) := by decide +kernel
theorem dX2_condition_85 : decode cX2_condition 85 = .ok (.invokevirtual 205, 3) := by decide +kernel
theorem dX2_condition_88 : decode cX2_condition 88 = .ok (.ireturn, 1) := by decide +kernel
theorem dX2_condition_89 : decode cX2_condition 89 = .ok (.aload_n 0, 1) := by decide +kernel
theorem dX2_condition_90 : decode cX2_condition 90 = .ok (.getfield 81, 3) := by decide +kernel
theorem dX2_condition_93 : decode cX2_condition 93 = .ok (.iload_n 3, 1) := by decide +kernel
theorem dX2_condition_94 : decode cX2_condition 94 = .ok (.aload_n 0, 1) := by decide +kernel
theorem dX2_condition_95 : decode cX2_condition 95 = .ok (.ldc 219, 2) := by decide +kernel
theorem dX2_condition_97 : decode cX2_condition 97 = .ok (.invokevirtual 201, 3) := by decide +kernel
theorem dX2_condition_100 : decode cX2_condition 100 = .ok (.ifCond .eq 7, 3) := by decide +kernel
theorem dX2_condition_103 : decode cX2_condition 103 = .ok (.iconst 0, 1) := by decide +kernel
theorem dX2_condition_104 : decode cX2_condition 104 = .ok (.goto 17, 3) := by decide +kernel
theorem dX2_condition_107 : decode cX2_condition 107 = .ok (.aload_n 0, 1) := by decide +kernel
theorem dX2_condition_108 : decode cX2_condition 108 = .ok (.ldc 221, 2) := by decide +kernel
theorem dX2_condition_110 : decode cX2_condition 110 = .ok (.invokevirtual 201, 3) := by decide +kernel
theorem dX2_condition_113 : decode cX2_condition 113 = .ok (.ifCond .eq 7, 3) := by decide +kernel
theorem dX2_condition_116 : decode cX2_condition 116 = .ok (.iconst 1, 1) := by decide +kernel
theorem dX2_condition_117 : decode cX2_condition 117 = .ok (.goto 4, 3) := by decide +kernel
theorem dX2_condition_120 : decode cX2_condition 120 = .ok (.iconst 2, 1) := by decide +kernel
theorem dX2_condition_121 : decode cX2_condition 121 = .ok (.iastore, 1) := by decide +kernel
theorem dX2_condition_122 : decode cX2_condition 122 = .ok (.aload_n 0, 1) := by decide +kernel
theorem dX2_condition_123 : decode cX2_condition 123 = .ok (.invokevirtual 208, 3) := by decide +kernel
theorem dX2_condition_126 : decode cX2_condition 126 = .ok (.aload_n 0, 1) := by decide +kernel
theorem dX2_condition_127 : decode cX2_condition 127 = .ok (.getfield 84, 3) := by decide +kernel
theorem dX2_condition_130 : decode cX2_condition 130 = .ok (.iload_n 3, 1) := by decide +kernel
theorem dX2_condition_131 : decode cX2_condition 131 = .ok (.aload_n 0, 1) := by decide +kernel
theorem dX2_condition_132 : decode cX2_condition 132 = .ok (.invokevirtual 225, 3) := by decide +kernel
theorem dX2_condition_135 : decode cX2_condition 135 = .ok (.iastore, 1) := by decide +kernel
theorem dX2_condition_136 : decode cX2_condition 136 = .ok (.aload_n 0, 1) := by decide +kernel
theorem dX2_condition_137 : decode cX2_condition 137 = .ok (.getfield 75, 3) := by decide +kernel
theorem dX2_condition_140 : decode cX2_condition 140 = .ok (.iload_n 1, 1) := by decide +kernel
theorem dX2_condition_141 : decode cX2_condition 141 = .ok (.dup2, 1) := by decide +kernel
theorem dX2_condition_142 : decode cX2_condition 142 = .ok (.iaload, 1) := by decide +kernel
theorem dX2_condition_143 : decode cX2_condition 143 = .ok (.iconst 1, 1) := by decide +kernel
theorem dX2_condition_144 : decode cX2_condition 144 = .ok (.iadd, 1) := by decide +kernel
theorem dX2_condition_145 : decode cX2_condition 145 = .ok (.iastore, 1) := by decide +kernel
theorem dX2_condition_146 : decode cX2_condition 146 = .ok (.aload_n 0, 1) := by decide +kernel
theorem dX2_condition_147 : decode cX2_condition 147 = .ok (.getfield 188, 3) := by decide +kernel
theorem dX2_condition_150 : decode cX2_condition 150 = .ok (.ifCond .ne 7, 3) := by decide +kernel
theorem dX2_condition_153 : decode cX2_condition 153 = .ok (.iconst 1, 1) := by decide +kernel
theorem dX2_condition_154 : decode cX2_condition 154 = .ok (.goto 4, 3) := by decide +kernel
theorem dX2_condition_157 : decode cX2_condition 157 = .ok (.iconst 0, 1) := by decide +kernel
theorem dX2_condition_158 : decode cX2_condition 158 = .ok (.ireturn, 1) := by decide +kernel
theorem dX2_number_0 : decode cX2_number 0 = .ok (.aload_n 0, 1) := by decide +kernel
theorem dX2_number_1 : decode cX2_number 1 = .ok (.getfield 182, 3) := by decide +kernel
theorem dX2_number_4 : decode cX2_number 4 = .ok (.iconst 2, 1) := by decide +kernel
theorem dX2_number_5 : decode cX2_number 5 = .ok (.if_icmp .eq 11, 3) := by decide +kernel
theorem dX2_number_8 : decode cX2_number 8 = .ok (.aload_n 0, 1) := by decide +kernel
theorem dX2_number_9 : decode cX2_number 9 = .ok (.iconst 1, 1) := by decide +kernel
theorem dX2_number_10 : decode cX2_number 10 = .ok (.invokevirtual 205, 3) := by decide +kernel
theorem dX2_number_13 : decode cX2_number 13 = .ok (.istore_n 1, 1) := by decide +kernel
theorem dX2_number_14 : decode cX2_number 14 = .ok (.iconst 0, 1) := by decide +kernel
theorem dX2_number_15 : decode cX2_number 15 = .ok (.ireturn, 1) := by decide +kernel
theorem dX2_number_16 : decode cX2_number 16 = .ok (.aload_n 0, 1) := by decide +kernel
theorem dX2_number_17 : decode cX2_number 17 = .ok (.getfield 185, 3) := by decide +kernel
theorem dX2_number_20 : decode cX2_number 20 = .ok (.istore_n 1, 1) := by decide +kernel
theorem dX2_number_21 : decode cX2_number 21 = .ok (.aload_n 0, 1) := by decide +kernel
theorem dX2_number_22 : decode cX2_number 22 = .ok (.invokevirtual 208, 3) := by decide +kernel
theorem dX2_number_25 : decode cX2_number 25 = .ok (.iload_n 1, 1) := by decide +kernel
theorem dX2_number_26 : decode cX2_number 26 = .ok (.ireturn, 1) := by decide +kernel
theorem dX2_must_0 : decode cX2_must 0 = .ok (.aload_n 0, 1) := by decide +kernel
theorem dX2_must_1 : decode cX2_must 1 = .ok (.aload_n 1, 1) := by decide +kernel
theorem dX2_must_2 : decode cX2_must 2 = .ok (.invokevirtual 201, 3) := by decide +kernel
theorem dX2_must_5 : decode cX2_must 5 = .ok (.ifCond .ne 9, 3) := by decide +kernel
theorem dX2_must_8 : decode cX2_must 8 = .ok (.aload_n 0, 1) := by decide +kernel
theorem dX2_must_9 : decode cX2_must 9 = .ok (.iconst 1, 1) := by decide +kernel
theorem dX2_must_10 : decode cX2_must 10 = .ok (.invokevirtual 205, 3) := by decide +kernel
theorem dX2_must_13 : decode cX2_must 13 = .ok (.ireturn, 1) := by decide +kernel
theorem dX2_must_14 : decode cX2_must 14 = .ok (.aload_n 0, 1) := by decide +kernel
theorem dX2_must_15 : decode cX2_must 15 = .ok (.invokevirtual 208, 3) := by decide +kernel
theorem dX2_must_18 : decode cX2_must 18 = .ok (.iconst 1, 1) := by decide +kernel
theorem dX2_must_19 : decode cX2_must 19 = .ok (.ireturn, 1) := by decide +kernel
theorem dX2_place_0 : decode cX2_place 0 = .ok (.aload_n 0, 1) := by decide +kernel
theorem dX2_place_1 : decode cX2_place 1 = .ok (.iconst 0, 1) := by decide +kernel
theorem dX2_place_2 : decode cX2_place 2 = .ok (.putfield 121, 3) := by decide +kernel
theorem dX2_place_5 : decode cX2_place 5 = .ok (.aload_n 0, 1) := by decide +kernel
theorem dX2_place_6 : decode cX2_place 6 = .ok (.getfield 90, 3) := by decide +kernel
theorem dX2_place_9 : decode cX2_place 9 = .ok (.ireturn, 1) := by decide +kernel
theorem dX2_hours_0 : decode cX2_hours 0 = .ok (.aload_n 0, 1) := by decide +kernel
theorem dX2_hours_1 : decode cX2_hours 1 = .ok (.iconst 0, 1) := by decide +kernel
theorem dX2_hours_2 : decode cX2_hours 2 = .ok (.putfield 121, 3) := by decide +kernel
theorem dX2_hours_5 : decode cX2_hours 5 = .ok (.iload_n 1, 1) := by decide +kernel
theorem dX2_hours_6 : decode cX2_hours 6 = .ok (.iconst 1, 1) := by decide +kernel
theorem dX2_hours_7 : decode cX2_hours 7 = .ok (.bipush 100, 2) := by decide +kernel
theorem dX2_hours_9 : decode cX2_hours 9 = .ok (.invokestatic 128, 3) := by decide +kernel
theorem dX2_hours_12 : decode cX2_hours 12 = .ok (.ifCond .eq 15, 3) := by decide +kernel
theorem dX2_hours_15 : decode cX2_hours 15 = .ok (.aload_n 0, 1) := by decide +kernel
theorem dX2_hours_16 : decode cX2_hours 16 = .ok (.getfield 142, 3) := by decide +kernel
theorem dX2_hours_19 : decode cX2_hours 19 = .ok (.iload_n 1, 1) := by decide +kernel
theorem dX2_hours_20 : decode cX2_hours 20 = .ok (.iadd, 1) := by decide +kernel
theorem dX2_hours_21 : decode cX2_hours 21 = .ok (.sipush 600, 3) := by decide +kernel
theorem dX2_hours_24 : decode cX2_hours 24 = .ok (.if_icmp .le 5, 3) := by decide +kernel
theorem dX2_hours_27 : decode cX2_hours 27 = .ok (.iconst (-1), 1) := by decide +kernel
theorem dX2_hours_28 : decode cX2_hours 28 = .ok (.ireturn, 1) := by decide +kernel
theorem dX2_hours_29 : decode cX2_hours 29 = .ok (.iconst 0, 1) := by decide +kernel
theorem dX2_hours_30 : decode cX2_hours 30 = .ok (.istore_n 2, 1) := by decide +kernel
theorem dX2_hours_31 : decode cX2_hours 31 = .ok (.iload_n 2, 1) := by decide +kernel
theorem dX2_hours_32 : decode cX2_hours 32 = .ok (.iload_n 1, 1) := by decide +kernel
theorem dX2_hours_33 : decode cX2_hours 33 = .ok (.if_icmp .ge 221, 3) := by decide +kernel
theorem dX2_hours_36 : decode cX2_hours 36 = .ok (.aload_n 0, 1) := by decide +kernel
theorem dX2_hours_37 : decode cX2_hours 37 = .ok (.invokevirtual 266, 3) := by decide +kernel
theorem dX2_hours_40 : decode cX2_hours 40 = .ok (.istore_n 3, 1) := by decide +kernel
theorem dX2_hours_41 : decode cX2_hours 41 = .ok (.iconst 0, 1) := by decide +kernel
theorem dX2_hours_42 : decode cX2_hours 42 = .ok (.istore 4, 2) := by decide +kernel
theorem dX2_hours_44 : decode cX2_hours 44 = .ok (.iload 4, 2) := by decide +kernel
theorem dX2_hours_46 : decode cX2_hours 46 = .ok (.aload_n 0, 1) := by decide +kernel
theorem dX2_hours_47 : decode cX2_hours 47 = .ok (.getfield 132, 3) := by decide +kernel
theorem dX2_hours_50 : decode cX2_hours 50 = .ok (.if_icmp .ge 188, 3) := by decide +kernel
theorem dX2_hours_53 : decode cX2_hours 53 = .ok (.iload_n 3, 1) := by decide +kernel
theorem dX2_hours_54 : decode cX2_hours 54 = .ok (.iconst (-1), 1) := by decide +kernel
theorem dX2_hours_55 : decode cX2_hours 55 = .ok (.if_icmp .eq 59, 3) := by decide +kernel
theorem dX2_hours_58 : decode cX2_hours 58 = .ok (.bipush 10, 2) := by decide +kernel
theorem dX2_hours_60 : decode cX2_hours 60 = .ok (.iload_n 3, 1) := by decide +kernel
theorem dX2_hours_61 : decode cX2_hours 61 = .ok (.imul, 1) := by decide +kernel
theorem dX2_hours_62 : decode cX2_hours 62 = .ok (.istore 5, 2) := by decide +kernel
theorem dX2_hours_64 : decode cX2_hours 64 = .ok (.iload 5, 2) := by decide +kernel
theorem dX2_hours_66 : decode cX2_hours 66 = .ok (.bipush 10, 2) := by decide +kernel
theorem dX2_hours_68 : decode cX2_hours 68 = .ok (.iload_n 3, 1) := by decide +kernel
theorem dX2_hours_69 : decode cX2_hours 69 = .ok (.imul, 1) := by decide +kernel
theorem dX2_hours_70 : decode cX2_hours 70 = .ok (.aload_n 0, 1) := by decide +kernel
theorem dX2_hours_71 : decode cX2_hours 71 = .ok (.getfield 66, 3) := by decide +kernel
theorem dX2_hours_74 : decode cX2_hours 74 = .ok (.iload_n 3, 1) := by decide +kernel
theorem dX2_hours_75 : decode cX2_hours 75 = .ok (.iaload, 1) := by decide +kernel
theorem dX2_hours_76 : decode cX2_hours 76 = .ok (.iadd, 1) := by decide +kernel
theorem dX2_hours_77 : decode cX2_hours 77 = .ok (.if_icmp .ge 37, 3) := by decide +kernel
theorem dX2_hours_80 : decode cX2_hours 80 = .ok (.aload_n 0, 1) := by decide +kernel
theorem dX2_hours_81 : decode cX2_hours 81 = .ok (.iload 4, 2) := by decide +kernel
theorem dX2_hours_83 : decode cX2_hours 83 = .ok (.invokevirtual 145, 3) := by decide +kernel
theorem dX2_hours_86 : decode cX2_hours 86 = .ok (.ifCond .eq 28, 3) := by decide +kernel
theorem dX2_hours_89 : decode cX2_hours 89 = .ok (.aload_n 0, 1) := by decide +kernel
theorem dX2_hours_90 : decode cX2_hours 90 = .ok (.iload 4, 2) := by decide +kernel
theorem dX2_hours_92 : decode cX2_hours 92 = .ok (.iload 5, 2) := by decide +kernel
theorem dX2_hours_94 : decode cX2_hours 94 = .ok (.invokevirtual 269, 3) := by decide +kernel
theorem dX2_hours_97 : decode cX2_hours 97 = .ok (.ifCond .eq 11, 3) := by decide +kernel
theorem dX2_hours_100 : decode cX2_hours 100 = .ok (.aload_n 0, 1) := by decide +kernel
theorem dX2_hours_101 : decode cX2_hours 101 = .ok (.iload 4, 2) := by decide +kernel
theorem dX2_hours_103 : decode cX2_hours 103 = .ok (.iload 5, 2) := by decide +kernel
theorem dX2_hours_105 : decode cX2_hours 105 = .ok (.invokevirtual 273, 3) := by decide +kernel
theorem dX2_hours_108 : decode cX2_hours 108 = .ok (.iinc 5 1, 3) := by decide +kernel
theorem dX2_hours_111 : decode cX2_hours 111 = .ok (.goto (-47), 3) := by decide +kernel
theorem dX2_hours_114 : decode cX2_hours 114 = .ok (.aload_n 0, 1) := by decide +kernel
theorem dX2_hours_115 : decode cX2_hours 115 = .ok (.iload 4, 2) := by decide +kernel
theorem dX2_hours_117 : decode cX2_hours 117 = .ok (.invokevirtual 145, 3) := by decide +kernel
theorem dX2_hours_120 : decode cX2_hours 120 = .ok (.ifCond .ne 6, 3) := by decide +kernel
theorem dX2_hours_123 : decode cX2_hours 123 = .ok (.goto 109, 3) := by decide +kernel
theorem dX2_hours_126 : decode cX2_hours 126 = .ok (.aload_n 0, 1) := by decide +kernel
theorem dX2_hours_127 : decode cX2_hours 127 = .ok (.iload 4, 2) := by decide +kernel
theorem dX2_hours_129 : decode cX2_hours 129 = .ok (.aload_n 0, 1) := by decide +kernel
theorem dX2_hours_130 : decode cX2_hours 130 = .ok (.getfield 142, 3) := by decide +kernel
theorem dX2_hours_133 : decode cX2_hours 133 = .ok (.invokevirtual 276, 3) := by decide +kernel
theorem dX2_hours_136 : decode cX2_hours 136 = .ok (.istore 5, 2) := by decide +kernel
theorem dX2_hours_138 : decode cX2_hours 138 = .ok (.aload_n 0, 1) := by decide +kernel
theorem dX2_hours_139 : decode cX2_hours 139 = .ok (.getfield 37, 3) := by decide +kernel
theorem dX2_hours_142 : decode cX2_hours 142 = .ok (.sipush 600, 3) := by decide +kernel
theorem dX2_hours_145 : decode cX2_hours 145 = .ok (.iload 4, 2) := by decide +kernel
theorem dX2_hours_147 : decode cX2_hours 147 = .ok (.imul, 1) := by decide +kernel
theorem dX2_hours_148 : decode cX2_hours 148 = .ok (.aload_n 0, 1) := by decide +kernel
theorem dX2_hours_149 : decode cX2_hours 149 = .ok (.getfield 142, 3) := by decide +kernel
theorem dX2_hours_152 : decode cX2_hours 152 = .ok (.iadd, 1) := by decide +kernel
theorem dX2_hours_153 : decode cX2_hours 153 = .ok (.iload 5, 2) := by decide +kernel
theorem dX2_hours_155 : decode cX2_hours 155 = .ok (.iconst 1, 1) := by decide +kernel
theorem dX2_hours_156 : decode cX2_hours 156 = .ok (.iadd, 1) := by decide +kernel
theorem dX2_hours_157 : decode cX2_hours 157 = .ok (.i2b, 1) := by decide +kernel
theorem dX2_hours_158 : decode cX2_hours 158 = .ok (.bastore, 1) := by decide +kernel
theorem dX2_hours_159 : decode cX2_hours 159 = .ok (.aload_n 0, 1) := by decide +kernel
theorem dX2_hours_160 : decode cX2_hours 160 = .ok (.getfield 41, 3) := by decide +kernel
theorem dX2_hours_163 : decode cX2_hours 163 = .ok (.iload 4, 2) := by decide +kernel
theorem dX2_hours_165 : decode cX2_hours 165 = .ok (.iload 5, 2) := by decide +kernel
theorem dX2_hours_167 : decode cX2_hours 167 = .ok (.iastore, 1) := by decide +kernel
theorem dX2_hours_168 : decode cX2_hours 168 = .ok (.aload_n 0, 1) := by decide +kernel
theorem dX2_hours_169 : decode cX2_hours 169 = .ok (.getfield 25, 3) := by decide +kernel
theorem dX2_hours_172 : decode cX2_hours 172 = .ok (.iload 4, 2) := by decide +kernel
theorem dX2_hours_174 : decode cX2_hours 174 = .ok (.aload_n 0, 1) := by decide +kernel
theorem dX2_hours_175 : decode cX2_hours 175 = .ok (.getfield 25, 3) := by decide +kernel
theorem dX2_hours_178 : decode cX2_hours 178 = .ok (.iload 4, 2) := by decide +kernel
theorem dX2_hours_180 : decode cX2_hours 180 = .ok (.iaload, 1) := by decide +kernel
theorem dX2_hours_181 : decode cX2_hours 181 = .ok (.iload 5, 2) := by decide +kernel
theorem dX2_hours_183 : decode cX2_hours 183 = .ok (.iconst 2, 1) := by decide +kernel
theorem dX2_hours_184 : decode cX2_hours 184 = .ok (.idiv, 1) := by decide +kernel
theorem dX2_hours_185 : decode cX2_hours 185 = .ok (.iadd, 1) := by decide +kernel
theorem dX2_hours_186 : decode cX2_hours 186 = .ok (.iconst 1, 1) := by decide +kernel
theorem dX2_hours_187 : decode cX2_hours 187 = .ok (.iadd, 1) := by decide +kernel
theorem dX2_hours_188 : decode cX2_hours 188 = .ok (.bipush 100, 2) := by decide +kernel
theorem dX2_hours_190 : decode cX2_hours 190 = .ok (.if_icmp .le 8, 3) := by decide +kernel
theorem dX2_hours_193 : decode cX2_hours 193 = .ok (.bipush 100, 2) := by decide +kernel
theorem dX2_hours_195 : decode cX2_hours 195 = .ok (.goto 17, 3) := by decide +kernel
theorem dX2_hours_198 : decode cX2_hours 198 = .ok (.aload_n 0, 1) := by decide +kernel
theorem dX2_hours_199 : decode cX2_hours 199 = .ok (.getfield 25, 3) := by decide +kernel
theorem dX2_hours_202 : decode cX2_hours 202 = .ok (.iload 4, 2) := by decide +kernel
theorem dX2_hours_204 : decode cX2_hours 204 = .ok (.iaload, 1) := by decide +kernel
theorem dX2_hours_205 : decode cX2_hours 205 = .ok (.iload 5, 2) := by decide +kernel
theorem dX2_hours_207 : decode cX2_hours 207 = .ok (.iconst 2, 1) := by decide +kernel
theorem dX2_hours_208 : decode cX2_hours 208 = .ok (.idiv, 1) := by decide +kernel
theorem dX2_hours_209 : decode cX2_hours 209 = .ok (.iadd, 1) := by decide +kernel
theorem dX2_hours_210 : decode cX2_hours 210 = .ok (.iconst 1, 1) := by decide +kernel
theorem dX2_hours_211 : decode cX2_hours 211 = .ok (.iadd, 1) := by decide +kernel
theorem dX2_hours_212 : decode cX2_hours 212 = .ok (.iastore, 1) := by decide +kernel
theorem dX2_hours_213 : decode cX2_hours 213 = .ok (.aload_n 0, 1) := by decide +kernel
theorem dX2_hours_214 : decode cX2_hours 214 = .ok (.getfield 25, 3) := by decide +kernel
theorem dX2_hours_217 : decode cX2_hours 217 = .ok (.iload 4, 2) := by decide +kernel
theorem dX2_hours_219 : decode cX2_hours 219 = .ok (.iaload, 1) := by decide +kernel
theorem dX2_hours_220 : decode cX2_hours 220 = .ok (.bipush 100, 2) := by decide +kernel
theorem dX2_hours_222 : decode cX2_hours 222 = .ok (.if_icmp .ne 10, 3) := by decide +kernel
theorem dX2_hours_225 : decode cX2_hours 225 = .ok (.aload_n 0, 1) := by decide +kernel
theorem dX2_hours_226 : decode cX2_hours 226 = .ok (.iload 4, 2) := by decide +kernel
theorem dX2_hours_228 : decode cX2_hours 228 = .ok (.iconst 3, 1) := by decide +kernel
theorem dX2_hours_229 : decode cX2_hours 229 = .ok (.invokevirtual 258, 3) := by decide +kernel
theorem dX2_hours_232 : decode cX2_hours 232 = .ok (.iinc 4 1, 3) := by decide +kernel
theorem dX2_hours_235 : decode cX2_hours 235 = .ok (.goto (-191), 3) := by decide +kernel
theorem dX2_hours_238 : decode cX2_hours 238 = .ok (.aload_n 0, 1) := by decide +kernel
theorem dX2_hours_239 : decode cX2_hours 239 = .ok (.dup, 1) := by decide +kernel
theorem dX2_hours_240 : decode cX2_hours 240 = .ok (.getfield 142, 3) := by decide +kernel
theorem dX2_hours_243 : decode cX2_hours 243 = .ok (.iconst 1, 1) := by decide +kernel
theorem dX2_hours_244 : decode cX2_hours 244 = .ok (.iadd, 1) := by decide +kernel
theorem dX2_hours_245 : decode cX2_hours 245 = .ok (.putfield 142, 3) := by decide +kernel
theorem dX2_hours_248 : decode cX2_hours 248 = .ok (.iinc 2 1, 3) := by decide +kernel
theorem dX2_hours_251 : decode cX2_hours 251 = .ok (.goto (-220), 3) := by decide +kernel
theorem dX2_hours_254 : decode cX2_hours 254 = .ok (.aload_n 0, 1) := by decide +kernel
theorem dX2_hours_255 : decode cX2_hours 255 = .ok (.getfield 142, 3) := by decide +kernel
theorem dX2_hours_258 : decode cX2_hours 258 = .ok (.ireturn, 1) := by decide +kernel
theorem dX2_inForce_0 : decode cX2_inForce 0 = .ok (.iconst (-1), 1) := by decide +kernel
theorem dX2_inForce_1 : decode cX2_inForce 1 = .ok (.istore_n 1, 1) := by decide +kernel
theorem dX2_inForce_2 : decode cX2_inForce 2 = .ok (.iconst 0, 1) := by decide +kernel
theorem dX2_inForce_3 : decode cX2_inForce 3 = .ok (.istore_n 2, 1) := by decide +kernel
theorem dX2_inForce_4 : decode cX2_inForce 4 = .ok (.iload_n 2, 1) := by decide +kernel
theorem dX2_inForce_5 : decode cX2_inForce 5 = .ok (.aload_n 0, 1) := by decide +kernel
theorem dX2_inForce_6 : decode cX2_inForce 6 = .ok (.getfield 245, 3) := by decide +kernel
theorem dX2_inForce_9 : decode cX2_inForce 9 = .ok (.if_icmp .ge 47, 3) := by decide +kernel
theorem dX2_inForce_12 : decode cX2_inForce 12 = .ok (.aload_n 0, 1) := by decide +kernel
theorem dX2_inForce_13 : decode cX2_inForce 13 = .ok (.getfield 63, 3) := by decide +kernel
theorem dX2_inForce_16 : decode cX2_inForce 16 = .ok (.iload_n 2, 1) := by decide +kernel
theorem dX2_inForce_17 : decode cX2_inForce 17 = .ok (.iaload, 1) := by decide +kernel
theorem dX2_inForce_18 : decode cX2_inForce 18 = .ok (.aload_n 0, 1) := by decide +kernel
theorem dX2_inForce_19 : decode cX2_inForce 19 = .ok (.getfield 142, 3) := by decide +kernel
theorem dX2_inForce_22 : decode cX2_inForce 22 = .ok (.bipush 24, 2) := by decide +kernel
theorem dX2_inForce_24 : decode cX2_inForce 24 = .ok (.idiv, 1) := by decide +kernel
theorem dX2_inForce_25 : decode cX2_inForce 25 = .ok (.if_icmp .gt 25, 3) := by decide +kernel
theorem dX2_inForce_28 : decode cX2_inForce 28 = .ok (.iload_n 1, 1) := by decide +kernel
theorem dX2_inForce_29 : decode cX2_inForce 29 = .ok (.iconst (-1), 1) := by decide +kernel
theorem dX2_inForce_30 : decode cX2_inForce 30 = .ok (.if_icmp .eq 18, 3) := by decide +kernel
theorem dX2_inForce_33 : decode cX2_inForce 33 = .ok (.aload_n 0, 1) := by decide +kernel
theorem dX2_inForce_34 : decode cX2_inForce 34 = .ok (.getfield 63, 3) := by decide +kernel
theorem dX2_inForce_37 : decode cX2_inForce 37 = .ok (.iload_n 2, 1) := by decide +kernel
theorem dX2_inForce_38 : decode cX2_inForce 38 = .ok (.iaload, 1) := by decide +kernel
theorem dX2_inForce_39 : decode cX2_inForce 39 = .ok (.aload_n 0, 1) := by decide +kernel
theorem dX2_inForce_40 : decode cX2_inForce 40 = .ok (.getfield 63, 3) := by decide +kernel
theorem dX2_inForce_43 : decode cX2_inForce 43 = .ok (.iload_n 1, 1) := by decide +kernel
theorem dX2_inForce_44 : decode cX2_inForce 44 = .ok (.iaload, 1) := by decide +kernel
theorem dX2_inForce_45 : decode cX2_inForce 45 = .ok (.if_icmp .lt 5, 3) := by decide +kernel
theorem dX2_inForce_48 : decode cX2_inForce 48 = .ok (.iload_n 2, 1) := by decide +kernel
theorem dX2_inForce_49 : decode cX2_inForce 49 = .ok (.istore_n 1, 1) := by decide +kernel
theorem dX2_inForce_50 : decode cX2_inForce 50 = .ok (.iinc 2 1, 3) := by decide +kernel
theorem dX2_inForce_53 : decode cX2_inForce 53 = .ok (.goto (-49), 3) := by decide +kernel
theorem dX2_inForce_56 : decode cX2_inForce 56 = .ok (.iload_n 1, 1) := by decide +kernel
theorem dX2_inForce_57 : decode cX2_inForce 57 = .ok (.ireturn, 1) := by decide +kernel
theorem dX2_holds_0 : decode cX2_holds 0 = .ok (.iconst 1, 1) := by decide +kernel
theorem dX2_holds_1 : decode cX2_holds 1 = .ok (.istore_n 3, 1) := by decide +kernel
theorem dX2_holds_2 : decode cX2_holds 2 = .ok (.iconst 3, 1) := by decide +kernel
theorem dX2_holds_3 : decode cX2_holds 3 = .ok (.iload_n 2, 1) := by decide +kernel
theorem dX2_holds_4 : decode cX2_holds 4 = .ok (.imul, 1) := by decide +kernel
theorem dX2_holds_5 : decode cX2_holds 5 = .ok (.istore 4, 2) := by decide +kernel
theorem dX2_holds_7 : decode cX2_holds 7 = .ok (.iload 4, 2) := by decide +kernel
theorem dX2_holds_9 : decode cX2_holds 9 = .ok (.iconst 3, 1) := by decide +kernel
theorem dX2_holds_10 : decode cX2_holds 10 = .ok (.iload_n 2, 1) := by decide +kernel
theorem dX2_holds_11 : decode cX2_holds 11 = .ok (.imul, 1) := by decide +kernel
theorem dX2_holds_12 : decode cX2_holds 12 = .ok (.aload_n 0, 1) := by decide +kernel
theorem dX2_holds_13 : decode cX2_holds 13 = .ok (.getfield 75, 3) := by decide +kernel
theorem dX2_holds_16 : decode cX2_holds 16 = .ok (.iload_n 2, 1) := by decide +kernel
theorem dX2_holds_17 : decode cX2_holds 17 = .ok (.iaload, 1) := by decide +kernel
theorem dX2_holds_18 : decode cX2_holds 18 = .ok (.iadd, 1) := by decide +kernel
theorem dX2_holds_19 : decode cX2_holds 19 = .ok (.if_icmp .ge 106, 3) := by decide +kernel
theorem dX2_holds_22 : decode cX2_holds 22 = .ok (.iload_n 3, 1) := by decide +kernel
theorem dX2_holds_23 : decode cX2_holds 23 = .ok (.ifCond .eq 102, 3) := by decide +kernel
theorem dX2_holds_26 : decode cX2_holds 26 = .ok (.aload_n 0, 1) := by decide +kernel
theorem dX2_holds_27 : decode cX2_holds 27 = .ok (.iload_n 1, 1) := by decide +kernel
theorem dX2_holds_28 : decode cX2_holds 28 = .ok (.aload_n 0, 1) := by decide +kernel
theorem dX2_holds_29 : decode cX2_holds 29 = .ok (.getfield 78, 3) := by decide +kernel
theorem dX2_holds_32 : decode cX2_holds 32 = .ok (.iload 4, 2) := by decide +kernel
theorem dX2_holds_34 : decode cX2_holds 34 = .ok (.iaload, 1) := by decide +kernel
theorem dX2_holds_35 : decode cX2_holds 35 = .ok (.invokevirtual 255, 3) := by decide +kernel
theorem dX2_holds_38 : decode cX2_holds 38 = .ok (.istore 5, 2) := by decide +kernel
theorem dX2_holds_40 : decode cX2_holds 40 = .ok (.aload_n 0, 1) := by decide +kernel
theorem dX2_holds_41 : decode cX2_holds 41 = .ok (.getfield 81, 3) := by decide +kernel
theorem dX2_holds_44 : decode cX2_holds 44 = .ok (.iload 4, 2) := by decide +kernel
theorem dX2_holds_46 : decode cX2_holds 46 = .ok (.iaload, 1) := by decide +kernel
theorem dX2_holds_47 : decode cX2_holds 47 = .ok (.ifCond .ne 23, 3) := by decide +kernel
theorem dX2_holds_50 : decode cX2_holds 50 = .ok (.iload 5, 2) := by decide +kernel
theorem dX2_holds_52 : decode cX2_holds 52 = .ok (.aload_n 0, 1) := by decide +kernel
theorem dX2_holds_53 : decode cX2_holds 53 = .ok (.getfield 84, 3) := by decide +kernel
theorem dX2_holds_56 : decode cX2_holds 56 = .ok (.iload 4, 2) := by decide +kernel
theorem dX2_holds_58 : decode cX2_holds 58 = .ok (.iaload, 1) := by decide +kernel
theorem dX2_holds_59 : decode cX2_holds 59 = .ok (.if_icmp .ge 7, 3) := by decide +kernel
theorem dX2_holds_62 : decode cX2_holds 62 = .ok (.iconst 1, 1) := by decide +kernel
theorem dX2_holds_63 : decode cX2_holds 63 = .ok (.goto 55, 3) := by decide +kernel
theorem dX2_holds_66 : decode cX2_holds 66 = .ok (.iconst 0, 1) := by decide +kernel
theorem dX2_holds_67 : decode cX2_holds 67 = .ok (.goto 51, 3) := by decide +kernel
theorem dX2_holds_70 : decode cX2_holds 70 = .ok (.aload_n 0, 1) := by decide +kernel
theorem dX2_holds_71 : decode cX2_holds 71 = .ok (.getfield 81, 3) := by decide +kernel
theorem dX2_holds_74 : decode cX2_holds 74 = .ok (.iload 4, 2) := by decide +kernel
theorem dX2_holds_76 : decode cX2_holds 76 = .ok (.iaload, 1) := by decide +kernel
theorem dX2_holds_77 : decode cX2_holds 77 = .ok (.iconst 1, 1) := by decide +kernel
theorem dX2_holds_78 : decode cX2_holds 78 = .ok (.if_icmp .ne 23, 3) := by decide +kernel
theorem dX2_holds_81 : decode cX2_holds 81 = .ok (.iload 5, 2) := by decide +kernel
theorem dX2_holds_83 : decode cX2_holds 83 = .ok (.aload_n 0, 1) := by decide +kernel
theorem dX2_holds_84 : decode cX2_holds 84 = .ok (.getfield 84, 3) := by decide +kernel
theorem dX2_holds_87 : decode cX2_holds 87 = .ok (.iload 4, 2) := by decide +kernel
theorem dX2_holds_89 : decode cX2_holds 89 = .ok (.iaload, 1) := by decide +kernel
theorem dX2_holds_90 : decode cX2_holds 90 = .ok (.if_icmp .ne 7, 3) := by decide +kernel
theorem dX2_holds_93 : decode cX2_holds 93 = .ok (.iconst 1, 1) := by decide +kernel
theorem dX2_holds_94 : decode cX2_holds 94 = .ok (.goto 24, 3) := by decide +kernel
theorem dX2_holds_97 : decode cX2_holds 97 = .ok (.iconst 0, 1) := by decide +kernel
theorem dX2_holds_98 : decode cX2_holds 98 = .ok (.goto 20, 3) := by decide +kernel
theorem dX2_holds_101 : decode cX2_holds 101 = .ok (.iload 5, 2) := by decide +kernel
theorem dX2_holds_103 : decode cX2_holds 103 = .ok (.aload_n 0, 1) := by decide +kernel
theorem dX2_holds_104 : decode cX2_holds 104 = .ok (.getfield 84, 3) := by decide +kernel
theorem dX2_holds_107 : decode cX2_holds 107 = .ok (.iload 4, 2) := by decide +kernel
theorem dX2_holds_109 : decode cX2_holds 109 = .ok (.iaload, 1) := by decide +kernel
theorem dX2_holds_110 : decode cX2_holds 110 = .ok (.if_icmp .le 7, 3) := by decide +kernel
theorem dX2_holds_113 : decode cX2_holds 113 = .ok (.iconst 1, 1) := by decide +kernel
theorem dX2_holds_114 : decode cX2_holds 114 = .ok (.goto 4, 3) := by decide +kernel
theorem dX2_holds_117 : decode cX2_holds 117 = .ok (.iconst 0, 1) := by decide +kernel
theorem dX2_holds_118 : decode cX2_holds 118 = .ok (.istore_n 3, 1) := by decide +kernel
theorem dX2_holds_119 : decode cX2_holds 119 = .ok (.iinc 4 1, 3) := by decide +kernel
theorem dX2_holds_122 : decode cX2_holds 122 = .ok (.goto (-115), 3) := by decide +kernel
theorem dX2_holds_125 : decode cX2_holds 125 = .ok (.iload_n 3, 1) := by decide +kernel
theorem dX2_holds_126 : decode cX2_holds 126 = .ok (.ireturn, 1) := by decide +kernel
theorem dX2_fieldOf_0 : decode cX2_fieldOf 0 = .ok (.iload_n 2, 1) := by decide +kernel
theorem dX2_fieldOf_1 : decode cX2_fieldOf 1 = .ok (.tableswitch 122 0 6 #[43, 58, 73, 80, 87, 99, 105], 43) := by decide +kernel
theorem dX2_fieldOf_44 : decode cX2_fieldOf 44 = .ok (.aload_n 0, 1) := by decide +kernel
theorem dX2_fieldOf_45 : decode cX2_fieldOf 45 = .ok (.iload_n 1, 1) := by decide +kernel
theorem dX2_fieldOf_46 : decode cX2_fieldOf 46 = .ok (.aload_n 0, 1) := by decide +kernel
theorem dX2_fieldOf_47 : decode cX2_fieldOf 47 = .ok (.getfield 142, 3) := by decide +kernel
theorem dX2_fieldOf_50 : decode cX2_fieldOf 50 = .ok (.aload_n 0, 1) := by decide +kernel
theorem dX2_fieldOf_51 : decode cX2_fieldOf 51 = .ok (.getfield 159, 3) := by decide +kernel
theorem dX2_fieldOf_54 : decode cX2_fieldOf 54 = .ok (.iconst 0, 1) := by decide +kernel
theorem dX2_fieldOf_55 : decode cX2_fieldOf 55 = .ok (.invokevirtual 166, 3) := by decide +kernel
theorem dX2_fieldOf_58 : decode cX2_fieldOf 58 = .ok (.ireturn, 1) := by decide +kernel
theorem dX2_fieldOf_59 : decode cX2_fieldOf 59 = .ok (.aload_n 0, 1) := by decide +kernel
theorem dX2_fieldOf_60 : decode cX2_fieldOf 60 = .ok (.iload_n 1, 1) := by decide +kernel
theorem dX2_fieldOf_61 : decode cX2_fieldOf 61 = .ok (.aload_n 0, 1) := by decide +kernel
theorem dX2_fieldOf_62 : decode cX2_fieldOf 62 = .ok (.getfield 142, 3) := by decide +kernel
theorem dX2_fieldOf_65 : decode cX2_fieldOf 65 = .ok (.aload_n 0, 1) := by decide +kernel
theorem dX2_fieldOf_66 : decode cX2_fieldOf 66 = .ok (.getfield 159, 3) := by decide +kernel
theorem dX2_fieldOf_69 : decode cX2_fieldOf 69 = .ok (.iconst 1, 1) := by decide +kernel
theorem dX2_fieldOf_70 : decode cX2_fieldOf 70 = .ok (.invokevirtual 166, 3) := by decide +kernel
theorem dX2_fieldOf_73 : decode cX2_fieldOf 73 = .ok (.ireturn, 1) := by decide +kernel
theorem dX2_fieldOf_74 : decode cX2_fieldOf 74 = .ok (.aload_n 0, 1) := by decide +kernel
theorem dX2_fieldOf_75 : decode cX2_fieldOf 75 = .ok (.getfield 25, 3) := by decide +kernel
theorem dX2_fieldOf_78 : decode cX2_fieldOf 78 = .ok (.iload_n 1, 1) := by decide +kernel
theorem dX2_fieldOf_79 : decode cX2_fieldOf 79 = .ok (.iaload, 1) := by decide +kernel
theorem dX2_fieldOf_80 : decode cX2_fieldOf 80 = .ok (.ireturn, 1) := by decide +kernel
theorem dX2_fieldOf_81 : decode cX2_fieldOf 81 = .ok (.aload_n 0, 1) := by decide +kernel
theorem dX2_fieldOf_82 : decode cX2_fieldOf 82 = .ok (.getfield 22, 3) := by decide +kernel
theorem dX2_fieldOf_85 : decode cX2_fieldOf 85 = .ok (.iload_n 1, 1) := by decide +kernel
theorem dX2_fieldOf_86 : decode cX2_fieldOf 86 = .ok (.iaload, 1) := by decide +kernel
theorem dX2_fieldOf_87 : decode cX2_fieldOf 87 = .ok (.ireturn, 1) := by decide +kernel
theorem dX2_fieldOf_88 : decode cX2_fieldOf 88 = .ok (.aload_n 0, 1) := by decide +kernel
theorem dX2_fieldOf_89 : decode cX2_fieldOf 89 = .ok (.getfield 142, 3) := by decide +kernel
theorem dX2_fieldOf_92 : decode cX2_fieldOf 92 = .ok (.aload_n 0, 1) := by decide +kernel
theorem dX2_fieldOf_93 : decode cX2_fieldOf 93 = .ok (.getfield 28, 3) := by decide +kernel
theorem dX2_fieldOf_96 : decode cX2_fieldOf 96 = .ok (.iload_n 1, 1) := by decide +kernel
theorem dX2_fieldOf_97 : decode cX2_fieldOf 97 = .ok (.iaload, 1) := by decide +kernel
theorem dX2_fieldOf_98 : decode cX2_fieldOf 98 = .ok (.isub, 1) := by decide +kernel
theorem dX2_fieldOf_99 : decode cX2_fieldOf 99 = .ok (.ireturn, 1) := by decide +kernel
theorem dX2_fieldOf_100 : decode cX2_fieldOf 100 = .ok (.aload_n 0, 1) := by decide +kernel
theorem dX2_fieldOf_101 : decode cX2_fieldOf 101 = .ok (.iload_n 1, 1) := by decide +kernel
theorem dX2_fieldOf_102 : decode cX2_fieldOf 102 = .ok (.invokevirtual 252, 3) := by decide +kernel
theorem dX2_fieldOf_105 : decode cX2_fieldOf 105 = .ok (.ireturn, 1) := by decide +kernel
theorem dX2_fieldOf_106 : decode cX2_fieldOf 106 = .ok (.aload_n 0, 1) := by decide +kernel
theorem dX2_fieldOf_107 : decode cX2_fieldOf 107 = .ok (.getfield 16, 3) := by decide +kernel
theorem dX2_fieldOf_110 : decode cX2_fieldOf 110 = .ok (.iload_n 1, 1) := by decide +kernel
theorem dX2_fieldOf_111 : decode cX2_fieldOf 111 = .ok (.iaload, 1) := by decide +kernel
theorem dX2_fieldOf_112 : decode cX2_fieldOf 112 = .ok (.bipush 7, 2) := by decide +kernel
theorem dX2_fieldOf_114 : decode cX2_fieldOf 114 = .ok (.if_icmp .le 7, 3) := by decide +kernel
theorem dX2_fieldOf_117 : decode cX2_fieldOf 117 = .ok (.iconst 1, 1) := by decide +kernel
theorem dX2_fieldOf_118 : decode cX2_fieldOf 118 = .ok (.goto 4, 3) := by decide +kernel
theorem dX2_fieldOf_121 : decode cX2_fieldOf 121 = .ok (.iconst 0, 1) := by decide +kernel
theorem dX2_fieldOf_122 : decode cX2_fieldOf 122 = .ok (.ireturn, 1) := by decide +kernel
theorem dX2_fieldOf_123 : decode cX2_fieldOf 123 = .ok (.aload_n 0, 1) := by decide +kernel
theorem dX2_fieldOf_124 : decode cX2_fieldOf 124 = .ok (.getfield 142, 3) := by decide +kernel
theorem dX2_fieldOf_127 : decode cX2_fieldOf 127 = .ok (.bipush 24, 2) := by decide +kernel
theorem dX2_fieldOf_129 : decode cX2_fieldOf 129 = .ok (.idiv, 1) := by decide +kernel
theorem dX2_fieldOf_130 : decode cX2_fieldOf 130 = .ok (.ireturn, 1) := by decide +kernel
theorem dX2_testsOf_0 : decode cX2_testsOf 0 = .ok (.iconst 0, 1) := by decide +kernel
theorem dX2_testsOf_1 : decode cX2_testsOf 1 = .ok (.istore_n 2, 1) := by decide +kernel
theorem dX2_testsOf_2 : decode cX2_testsOf 2 = .ok (.iconst 0, 1) := by decide +kernel
theorem dX2_testsOf_3 : decode cX2_testsOf 3 = .ok (.istore_n 3, 1) := by decide +kernel
theorem dX2_testsOf_4 : decode cX2_testsOf 4 = .ok (.iload_n 3, 1) := by decide +kernel
theorem dX2_testsOf_5 : decode cX2_testsOf 5 = .ok (.aload_n 0, 1) := by decide +kernel
theorem dX2_testsOf_6 : decode cX2_testsOf 6 = .ok (.getfield 159, 3) := by decide +kernel
theorem dX2_testsOf_9 : decode cX2_testsOf 9 = .ok (.if_icmp .ge 42, 3) := by decide +kernel
theorem dX2_testsOf_12 : decode cX2_testsOf 12 = .ok (.iload_n 2, 1) := by decide +kernel
theorem dX2_testsOf_13 : decode cX2_testsOf 13 = .ok (.aload_n 0, 1) := by decide +kernel
theorem dX2_testsOf_14 : decode cX2_testsOf 14 = .ok (.getfield 54, 3) := by decide +kernel
theorem dX2_testsOf_17 : decode cX2_testsOf 17 = .ok (.iload_n 3, 1) := by decide +kernel
theorem dX2_testsOf_18 : decode cX2_testsOf 18 = .ok (.iaload, 1) := by decide +kernel
theorem dX2_testsOf_19 : decode cX2_testsOf 19 = .ok (.iload_n 1, 1) := by decide +kernel
theorem dX2_testsOf_20 : decode cX2_testsOf 20 = .ok (.if_icmp .ne 22, 3) := by decide +kernel
theorem dX2_testsOf_23 : decode cX2_testsOf 23 = .ok (.aload_n 0, 1) := by decide +kernel
theorem dX2_testsOf_24 : decode cX2_testsOf 24 = .ok (.getfield 57, 3) := by decide +kernel
theorem dX2_testsOf_27 : decode cX2_testsOf 27 = .ok (.iload_n 3, 1) := by decide +kernel
theorem dX2_testsOf_28 : decode cX2_testsOf 28 = .ok (.iaload, 1) := by decide +kernel
theorem dX2_testsOf_29 : decode cX2_testsOf 29 = .ok (.aload_n 0, 1) := by decide +kernel
theorem dX2_testsOf_30 : decode cX2_testsOf 30 = .ok (.getfield 28, 3) := by decide +kernel
theorem dX2_testsOf_33 : decode cX2_testsOf 33 = .ok (.iload_n 1, 1) := by decide +kernel
theorem dX2_testsOf_34 : decode cX2_testsOf 34 = .ok (.iaload, 1) := by decide +kernel
theorem dX2_testsOf_35 : decode cX2_testsOf 35 = .ok (.if_icmp .lt 7, 3) := by decide +kernel
theorem dX2_testsOf_38 : decode cX2_testsOf 38 = .ok (.iconst 1, 1) := by decide +kernel
theorem dX2_testsOf_39 : decode cX2_testsOf 39 = .ok (.goto 4, 3) := by decide +kernel
theorem dX2_testsOf_42 : decode cX2_testsOf 42 = .ok (.iconst 0, 1) := by decide +kernel
theorem dX2_testsOf_43 : decode cX2_testsOf 43 = .ok (.iadd, 1) := by decide +kernel
theorem dX2_testsOf_44 : decode cX2_testsOf 44 = .ok (.istore_n 2, 1) := by decide +kernel
theorem dX2_testsOf_45 : decode cX2_testsOf 45 = .ok (.iinc 3 1, 3) := by decide +kernel
theorem dX2_testsOf_48 : decode cX2_testsOf 48 = .ok (.goto (-44), 3) := by decide +kernel
theorem dX2_testsOf_51 : decode cX2_testsOf 51 = .ok (.iload_n 2, 1) := by decide +kernel
theorem dX2_testsOf_52 : decode cX2_testsOf 52 = .ok (.ireturn, 1) := by decide +kernel
theorem dX2_acts_0 : decode cX2_acts 0 = .ok (.aload_n 0, 1) := by decide +kernel
theorem dX2_acts_1 : decode cX2_acts 1 = .ok (.getfield 69, 3) := by decide +kernel
theorem dX2_acts_4 : decode cX2_acts 4 = .ok (.iload_n 2, 1) := by decide +kernel
theorem dX2_acts_5 : decode cX2_acts 5 = .ok (.iaload, 1) := by decide +kernel
theorem dX2_acts_6 : decode cX2_acts 6 = .ok (.tableswitch 98 0 4 #[34, 42, 49, 57, 78], 34) := by decide +kernel
theorem dX2_acts_40 : decode cX2_acts 40 = .ok (.aload_n 0, 1) := by decide +kernel
theorem dX2_acts_41 : decode cX2_acts 41 = .ok (.getfield 25, 3) := by decide +kernel
theorem dX2_acts_44 : decode cX2_acts 44 = .ok (.iload_n 1, 1) := by decide +kernel
theorem dX2_acts_45 : decode cX2_acts 45 = .ok (.iconst 0, 1) := by decide +kernel
theorem dX2_acts_46 : decode cX2_acts 46 = .ok (.iastore, 1) := by decide +kernel
theorem dX2_acts_47 : decode cX2_acts 47 = .ok (.return_, 1) := by decide +kernel
theorem dX2_acts_48 : decode cX2_acts 48 = .ok (.aload_n 0, 1) := by decide +kernel
theorem dX2_acts_49 : decode cX2_acts 49 = .ok (.iload_n 1, 1) := by decide +kernel
theorem dX2_acts_50 : decode cX2_acts 50 = .ok (.iconst 2, 1) := by decide +kernel
theorem dX2_acts_51 : decode cX2_acts 51 = .ok (.invokevirtual 258, 3) := by decide +kernel
theorem dX2_acts_54 : decode cX2_acts 54 = .ok (.return_, 1) := by decide +kernel
theorem dX2_acts_55 : decode cX2_acts 55 = .ok (.aload_n 0, 1) := by decide +kernel
theorem dX2_acts_56 : decode cX2_acts 56 = .ok (.getfield 19, 3) := by decide +kernel
theorem dX2_acts_59 : decode cX2_acts 59 = .ok (.iload_n 1, 1) := by decide +kernel
theorem dX2_acts_60 : decode cX2_acts 60 = .ok (.iconst 1, 1) := by decide +kernel
theorem dX2_acts_61 : decode cX2_acts 61 = .ok (.iastore, 1) := by decide +kernel
theorem dX2_acts_62 : decode cX2_acts 62 = .ok (.return_, 1) := by decide +kernel
theorem dX2_acts_63 : decode cX2_acts 63 = .ok (.aload_n 0, 1) := by decide +kernel
theorem dX2_acts_64 : decode cX2_acts 64 = .ok (.getfield 16, 3) := by decide +kernel
theorem dX2_acts_67 : decode cX2_acts 67 = .ok (.iload_n 1, 1) := by decide +kernel
theorem dX2_acts_68 : decode cX2_acts 68 = .ok (.iaload, 1) := by decide +kernel
theorem dX2_acts_69 : decode cX2_acts 69 = .ok (.bipush 8, 2) := by decide +kernel
theorem dX2_acts_71 : decode cX2_acts 71 = .ok (.if_icmp .ge 12, 3) := by decide +kernel
theorem dX2_acts_74 : decode cX2_acts 74 = .ok (.aload_n 0, 1) := by decide +kernel
theorem dX2_acts_75 : decode cX2_acts 75 = .ok (.iload_n 1, 1) := by decide +kernel
theorem dX2_acts_76 : decode cX2_acts 76 = .ok (.bipush 8, 2) := by decide +kernel
theorem dX2_acts_78 : decode cX2_acts 78 = .ok (.bipush 11, 2) := by decide +kernel
theorem dX2_acts_80 : decode cX2_acts 80 = .ok (.invokevirtual 262, 3) := by decide +kernel
theorem dX2_acts_83 : decode cX2_acts 83 = .ok (.return_, 1) := by decide +kernel
theorem dX2_acts_84 : decode cX2_acts 84 = .ok (.aload_n 0, 1) := by decide +kernel
theorem dX2_acts_85 : decode cX2_acts 85 = .ok (.getfield 16, 3) := by decide +kernel
theorem dX2_acts_88 : decode cX2_acts 88 = .ok (.iload_n 1, 1) := by decide +kernel
theorem dX2_acts_89 : decode cX2_acts 89 = .ok (.iaload, 1) := by decide +kernel
theorem dX2_acts_90 : decode cX2_acts 90 = .ok (.bipush 7, 2) := by decide +kernel
theorem dX2_acts_92 : decode cX2_acts 92 = .ok (.if_icmp .le 11, 3) := by decide +kernel
theorem dX2_acts_95 : decode cX2_acts 95 = .ok (.aload_n 0, 1) := by decide +kernel
theorem dX2_acts_96 : decode cX2_acts 96 = .ok (.iload_n 1, 1) := by decide +kernel
theorem dX2_acts_97 : decode cX2_acts 97 = .ok (.iconst 0, 1) := by decide +kernel
theorem dX2_acts_98 : decode cX2_acts 98 = .ok (.bipush 7, 2) := by decide +kernel
theorem dX2_acts_100 : decode cX2_acts 100 = .ok (.invokevirtual 262, 3) := by decide +kernel
theorem dX2_acts_103 : decode cX2_acts 103 = .ok (.return_, 1) := by decide +kernel
theorem dX2_acts_104 : decode cX2_acts 104 = .ok (.aload_n 0, 1) := by decide +kernel
theorem dX2_acts_105 : decode cX2_acts 105 = .ok (.getfield 22, 3) := by decide +kernel
theorem dX2_acts_108 : decode cX2_acts 108 = .ok (.iload_n 1, 1) := by decide +kernel
theorem dX2_acts_109 : decode cX2_acts 109 = .ok (.aload_n 0, 1) := by decide +kernel
theorem dX2_acts_110 : decode cX2_acts 110 = .ok (.getfield 22, 3) := by decide +kernel
theorem dX2_acts_113 : decode cX2_acts 113 = .ok (.iload_n 1, 1) := by decide +kernel
theorem dX2_acts_114 : decode cX2_acts 114 = .ok (.iaload, 1) := by decide +kernel
theorem dX2_acts_115 : decode cX2_acts 115 = .ok (.aload_n 0, 1) := by decide +kernel
theorem dX2_acts_116 : decode cX2_acts 116 = .ok (.getfield 72, 3) := by decide +kernel
theorem dX2_acts_119 : decode cX2_acts 119 = .ok (.iload_n 2, 1) := by decide +kernel
theorem dX2_acts_120 : decode cX2_acts 120 = .ok (.iaload, 1) := by decide +kernel
theorem dX2_acts_121 : decode cX2_acts 121 = .ok (.iadd, 1) := by decide +kernel
theorem dX2_acts_122 : decode cX2_acts 122 = .ok (.bipush 60, 2) := by decide +kernel
theorem dX2_acts_124 : decode cX2_acts 124 = .ok (.if_icmp .le 8, 3) := by decide +kernel
theorem dX2_acts_127 : decode cX2_acts 127 = .ok (.bipush 60, 2) := by decide +kernel
theorem dX2_acts_129 : decode cX2_acts 129 = .ok (.goto 16, 3) := by decide +kernel
theorem dX2_acts_132 : decode cX2_acts 132 = .ok (.aload_n 0, 1) := by decide +kernel
theorem dX2_acts_133 : decode cX2_acts 133 = .ok (.getfield 22, 3) := by decide +kernel
theorem dX2_acts_136 : decode cX2_acts 136 = .ok (.iload_n 1, 1) := by decide +kernel
theorem dX2_acts_137 : decode cX2_acts 137 = .ok (.iaload, 1) := by decide +kernel
theorem dX2_acts_138 : decode cX2_acts 138 = .ok (.aload_n 0, 1) := by decide +kernel
theorem dX2_acts_139 : decode cX2_acts 139 = .ok (.getfield 72, 3) := by decide +kernel
theorem dX2_acts_142 : decode cX2_acts 142 = .ok (.iload_n 2, 1) := by decide +kernel
theorem dX2_acts_143 : decode cX2_acts 143 = .ok (.iaload, 1) := by decide +kernel
theorem dX2_acts_144 : decode cX2_acts 144 = .ok (.iadd, 1) := by decide +kernel
theorem dX2_acts_145 : decode cX2_acts 145 = .ok (.iastore, 1) := by decide +kernel
theorem dX2_acts_146 : decode cX2_acts 146 = .ok (.return_, 1) := by decide +kernel
theorem dX2_goes_0 : decode cX2_goes 0 = .ok (.aload_n 0, 1) := by decide +kernel
theorem dX2_goes_1 : decode cX2_goes 1 = .ok (.dup, 1) := by decide +kernel
theorem dX2_goes_2 : decode cX2_goes 2 = .ok (.getfield 152, 3) := by decide +kernel
theorem dX2_goes_5 : decode cX2_goes 5 = .ok (.aload_n 0, 1) := by decide +kernel
theorem dX2_goes_6 : decode cX2_goes 6 = .ok (.iload_n 1, 1) := by decide +kernel
theorem dX2_goes_7 : decode cX2_goes 7 = .ok (.invokevirtual 148, 3) := by decide +kernel
theorem dX2_goes_10 : decode cX2_goes 10 = .ok (.iadd, 1) := by decide +kernel
theorem dX2_goes_11 : decode cX2_goes 11 = .ok (.putfield 152, 3) := by decide +kernel
theorem dX2_goes_14 : decode cX2_goes 14 = .ok (.iconst 0, 1) := by decide +kernel
theorem dX2_goes_15 : decode cX2_goes 15 = .ok (.istore_n 3, 1) := by decide +kernel
theorem dX2_goes_16 : decode cX2_goes 16 = .ok (.iload_n 3, 1) := by decide +kernel
theorem dX2_goes_17 : decode cX2_goes 17 = .ok (.bipush 20, 2) := by decide +kernel
theorem dX2_goes_19 : decode cX2_goes 19 = .ok (.if_icmp .ge 21, 3) := by decide +kernel
theorem dX2_goes_22 : decode cX2_goes 22 = .ok (.aload_n 0, 1) := by decide +kernel
theorem dX2_goes_23 : decode cX2_goes 23 = .ok (.getfield 13, 3) := by decide +kernel
theorem dX2_goes_26 : decode cX2_goes 26 = .ok (.bipush 20, 2) := by decide +kernel
theorem dX2_goes_28 : decode cX2_goes 28 = .ok (.iload_n 1, 1) := by decide +kernel
theorem dX2_goes_29 : decode cX2_goes 29 = .ok (.imul, 1) := by decide +kernel
theorem dX2_goes_30 : decode cX2_goes 30 = .ok (.iload_n 3, 1) := by decide +kernel
theorem dX2_goes_31 : decode cX2_goes 31 = .ok (.iadd, 1) := by decide +kernel
theorem dX2_goes_32 : decode cX2_goes 32 = .ok (.iconst 0, 1) := by decide +kernel
theorem dX2_goes_33 : decode cX2_goes 33 = .ok (.iastore, 1) := by decide +kernel
theorem dX2_goes_34 : decode cX2_goes 34 = .ok (.iinc 3 1, 3) := by decide +kernel
theorem dX2_goes_37 : decode cX2_goes 37 = .ok (.goto (-21), 3) := by decide +kernel
theorem dX2_goes_40 : decode cX2_goes 40 = .ok (.aload_n 0, 1) := by decide +kernel
theorem dX2_goes_41 : decode cX2_goes 41 = .ok (.getfield 19, 3) := by decide +kernel
theorem dX2_goes_44 : decode cX2_goes 44 = .ok (.iload_n 1, 1) := by decide +kernel
theorem dX2_goes_45 : decode cX2_goes 45 = .ok (.iload_n 2, 1) := by decide +kernel
theorem dX2_goes_46 : decode cX2_goes 46 = .ok (.iastore, 1) := by decide +kernel
theorem dX2_goes_47 : decode cX2_goes 47 = .ok (.return_, 1) := by decide +kernel
theorem dX2_moves_0 : decode cX2_moves 0 = .ok (.iload_n 2, 1) := by decide +kernel
theorem dX2_moves_1 : decode cX2_moves 1 = .ok (.istore 4, 2) := by decide +kernel
theorem dX2_moves_3 : decode cX2_moves 3 = .ok (.iload 4, 2) := by decide +kernel
theorem dX2_moves_5 : decode cX2_moves 5 = .ok (.iload_n 3, 1) := by decide +kernel
theorem dX2_moves_6 : decode cX2_moves 6 = .ok (.if_icmp .gt 18, 3) := by decide +kernel
theorem dX2_moves_9 : decode cX2_moves 9 = .ok (.aload_n 0, 1) := by decide +kernel
theorem dX2_moves_10 : decode cX2_moves 10 = .ok (.iload 4, 2) := by decide +kernel
theorem dX2_moves_12 : decode cX2_moves 12 = .ok (.invokevirtual 139, 3) := by decide +kernel
theorem dX2_moves_15 : decode cX2_moves 15 = .ok (.ifCond .ne 9, 3) := by decide +kernel
theorem dX2_moves_18 : decode cX2_moves 18 = .ok (.iinc 4 1, 3) := by decide +kernel
theorem dX2_moves_21 : decode cX2_moves 21 = .ok (.goto (-18), 3) := by decide +kernel
theorem dX2_moves_24 : decode cX2_moves 24 = .ok (.iload 4, 2) := by decide +kernel
theorem dX2_moves_26 : decode cX2_moves 26 = .ok (.iload_n 3, 1) := by decide +kernel
theorem dX2_moves_27 : decode cX2_moves 27 = .ok (.if_icmp .gt 11, 3) := by decide +kernel
theorem dX2_moves_30 : decode cX2_moves 30 = .ok (.aload_n 0, 1) := by decide +kernel
theorem dX2_moves_31 : decode cX2_moves 31 = .ok (.getfield 16, 3) := by decide +kernel
theorem dX2_moves_34 : decode cX2_moves 34 = .ok (.iload_n 1, 1) := by decide +kernel
theorem dX2_moves_35 : decode cX2_moves 35 = .ok (.iload 4, 2) := by decide +kernel
theorem dX2_moves_37 : decode cX2_moves 37 = .ok (.iastore, 1) := by decide +kernel
theorem dX2_moves_38 : decode cX2_moves 38 = .ok (.return_, 1) := by decide +kernel
theorem dX2_rateOf_0 : decode cX2_rateOf 0 = .ok (.aload_n 0, 1) := by decide +kernel
theorem dX2_rateOf_1 : decode cX2_rateOf 1 = .ok (.getfield 51, 3) := by decide +kernel
theorem dX2_rateOf_4 : decode cX2_rateOf 4 = .ok (.iconst 4, 1) := by decide +kernel
theorem dX2_rateOf_5 : decode cX2_rateOf 5 = .ok (.aload_n 0, 1) := by decide +kernel
theorem dX2_rateOf_6 : decode cX2_rateOf 6 = .ok (.aload_n 0, 1) := by decide +kernel
theorem dX2_rateOf_7 : decode cX2_rateOf 7 = .ok (.getfield 16, 3) := by decide +kernel
theorem dX2_rateOf_10 : decode cX2_rateOf 10 = .ok (.iload_n 1, 1) := by decide +kernel
theorem dX2_rateOf_11 : decode cX2_rateOf 11 = .ok (.iaload, 1) := by decide +kernel
theorem dX2_rateOf_12 : decode cX2_rateOf 12 = .ok (.iconst 4, 1) := by decide +kernel
theorem dX2_rateOf_13 : decode cX2_rateOf 13 = .ok (.idiv, 1) := by decide +kernel
theorem dX2_rateOf_14 : decode cX2_rateOf 14 = .ok (.iload_n 2, 1) := by decide +kernel
theorem dX2_rateOf_15 : decode cX2_rateOf 15 = .ok (.invokevirtual 155, 3) := by decide +kernel
theorem dX2_rateOf_18 : decode cX2_rateOf 18 = .ok (.iconst 5, 1) := by decide +kernel
theorem dX2_rateOf_19 : decode cX2_rateOf 19 = .ok (.iadd, 1) := by decide +kernel
theorem dX2_rateOf_20 : decode cX2_rateOf 20 = .ok (.bipush 8, 2) := by decide +kernel
theorem dX2_rateOf_22 : decode cX2_rateOf 22 = .ok (.idiv, 1) := by decide +kernel
theorem dX2_rateOf_23 : decode cX2_rateOf 23 = .ok (.imul, 1) := by decide +kernel
theorem dX2_rateOf_24 : decode cX2_rateOf 24 = .ok (.aload_n 0, 1) := by decide +kernel
theorem dX2_rateOf_25 : decode cX2_rateOf 25 = .ok (.getfield 22, 3) := by decide +kernel
theorem dX2_rateOf_28 : decode cX2_rateOf 28 = .ok (.iload_n 1, 1) := by decide +kernel
theorem dX2_rateOf_29 : decode cX2_rateOf 29 = .ok (.iaload, 1) := by decide +kernel
theorem dX2_rateOf_30 : decode cX2_rateOf 30 = .ok (.bipush 16, 2) := by decide +kernel
theorem dX2_rateOf_32 : decode cX2_rateOf 32 = .ok (.idiv, 1) := by decide +kernel
theorem dX2_rateOf_33 : decode cX2_rateOf 33 = .ok (.iadd, 1) := by decide +kernel
theorem dX2_rateOf_34 : decode cX2_rateOf 34 = .ok (.iaload, 1) := by decide +kernel
theorem dX2_rateOf_35 : decode cX2_rateOf 35 = .ok (.ireturn, 1) := by decide +kernel
theorem dX2_warmthIn_0 : decode cX2_warmthIn 0 = .ok (.iload_n 2, 1) := by decide +kernel
theorem dX2_warmthIn_1 : decode cX2_warmthIn 1 = .ok (.istore_n 3, 1) := by decide +kernel
theorem dX2_warmthIn_2 : decode cX2_warmthIn 2 = .ok (.iload_n 3, 1) := by decide +kernel
theorem dX2_warmthIn_3 : decode cX2_warmthIn 3 = .ok (.ifCond .lt 24, 3) := by decide +kernel
theorem dX2_warmthIn_6 : decode cX2_warmthIn 6 = .ok (.aload_n 0, 1) := by decide +kernel
theorem dX2_warmthIn_7 : decode cX2_warmthIn 7 = .ok (.getfield 47, 3) := by decide +kernel
theorem dX2_warmthIn_10 : decode cX2_warmthIn 10 = .ok (.sipush 600, 3) := by decide +kernel
theorem dX2_warmthIn_13 : decode cX2_warmthIn 13 = .ok (.iload_n 1, 1) := by decide +kernel
theorem dX2_warmthIn_14 : decode cX2_warmthIn 14 = .ok (.imul, 1) := by decide +kernel
theorem dX2_warmthIn_15 : decode cX2_warmthIn 15 = .ok (.iload_n 3, 1) := by decide +kernel
theorem dX2_warmthIn_16 : decode cX2_warmthIn 16 = .ok (.iadd, 1) := by decide +kernel
theorem dX2_warmthIn_17 : decode cX2_warmthIn 17 = .ok (.baload, 1) := by decide +kernel
theorem dX2_warmthIn_18 : decode cX2_warmthIn 18 = .ok (.ifCond .ne 9, 3) := by decide +kernel
theorem dX2_warmthIn_21 : decode cX2_warmthIn 21 = .ok (.iinc 3 (-1), 3) := by decide +kernel
theorem dX2_warmthIn_24 : decode cX2_warmthIn 24 = .ok (.goto (-22), 3) := by decide +kernel
theorem dX2_warmthIn_27 : decode cX2_warmthIn 27 = .ok (.iload_n 3, 1) := by decide +kernel
theorem dX2_warmthIn_28 : decode cX2_warmthIn 28 = .ok (.ifCond .ge 8, 3) := by decide +kernel
theorem dX2_warmthIn_31 : decode cX2_warmthIn 31 = .ok (.bipush 15, 2) := by decide +kernel
theorem dX2_warmthIn_33 : decode cX2_warmthIn 33 = .ok (.goto 15, 3) := by decide +kernel
theorem dX2_warmthIn_36 : decode cX2_warmthIn 36 = .ok (.aload_n 0, 1) := by decide +kernel
theorem dX2_warmthIn_37 : decode cX2_warmthIn 37 = .ok (.getfield 44, 3) := by decide +kernel
theorem dX2_warmthIn_40 : decode cX2_warmthIn 40 = .ok (.sipush 600, 3) := by decide +kernel
theorem dX2_warmthIn_43 : decode cX2_warmthIn 43 = .ok (.iload_n 1, 1) := by decide +kernel
theorem dX2_warmthIn_44 : decode cX2_warmthIn 44 = .ok (.imul, 1) := by decide +kernel
theorem dX2_warmthIn_45 : decode cX2_warmthIn 45 = .ok (.iload_n 3, 1) := by decide +kernel
theorem dX2_warmthIn_46 : decode cX2_warmthIn 46 = .ok (.iadd, 1) := by decide +kernel
theorem dX2_warmthIn_47 : decode cX2_warmthIn 47 = .ok (.baload, 1) := by decide +kernel
theorem dX2_warmthIn_48 : decode cX2_warmthIn 48 = .ok (.ireturn, 1) := by decide +kernel
theorem dX2_pour_0 : decode cX2_pour 0 = .ok (.aload_n 0, 1) := by decide +kernel
theorem dX2_pour_1 : decode cX2_pour 1 = .ok (.iconst 0, 1) := by decide +kernel
theorem dX2_pour_2 : decode cX2_pour 2 = .ok (.putfield 121, 3) := by decide +kernel
theorem dX2_pour_5 : decode cX2_pour 5 = .ok (.aload_n 0, 1) := by decide +kernel
theorem dX2_pour_6 : decode cX2_pour 6 = .ok (.iload_n 1, 1) := by decide +kernel
theorem dX2_pour_7 : decode cX2_pour 7 = .ok (.invokevirtual 145, 3) := by decide +kernel
theorem dX2_pour_10 : decode cX2_pour 10 = .ok (.ifCond .eq 32, 3) := by decide +kernel
theorem dX2_pour_13 : decode cX2_pour 13 = .ok (.aload_n 0, 1) := by decide +kernel
theorem dX2_pour_14 : decode cX2_pour 14 = .ok (.iload_n 2, 1) := by decide +kernel
theorem dX2_pour_15 : decode cX2_pour 15 = .ok (.invokevirtual 145, 3) := by decide +kernel
theorem dX2_pour_18 : decode cX2_pour 18 = .ok (.ifCond .eq 24, 3) := by decide +kernel
theorem dX2_pour_21 : decode cX2_pour 21 = .ok (.iload_n 1, 1) := by decide +kernel
theorem dX2_pour_22 : decode cX2_pour 22 = .ok (.iload_n 2, 1) := by decide +kernel
theorem dX2_pour_23 : decode cX2_pour 23 = .ok (.if_icmp .eq 19, 3) := by decide +kernel
theorem dX2_pour_26 : decode cX2_pour 26 = .ok (.aload_n 0, 1) := by decide +kernel
theorem dX2_pour_27 : decode cX2_pour 27 = .ok (.iload_n 1, 1) := by decide +kernel
theorem dX2_pour_28 : decode cX2_pour 28 = .ok (.invokevirtual 148, 3) := by decide +kernel
theorem dX2_pour_31 : decode cX2_pour 31 = .ok (.ifCond .eq 11, 3) := by decide +kernel
theorem dX2_pour_34 : decode cX2_pour 34 = .ok (.aload_n 0, 1) := by decide +kernel
theorem dX2_pour_35 : decode cX2_pour 35 = .ok (.iload_n 2, 1) := by decide +kernel
theorem dX2_pour_36 : decode cX2_pour 36 = .ok (.invokevirtual 148, 3) := by decide +kernel
theorem dX2_pour_39 : decode cX2_pour 39 = .ok (.ifCond .ne 5, 3) := by decide +kernel
theorem dX2_pour_42 : decode cX2_pour 42 = .ok (.iconst (-1), 1) := by decide +kernel
theorem dX2_pour_43 : decode cX2_pour 43 = .ok (.ireturn, 1) := by decide +kernel
theorem dX2_pour_44 : decode cX2_pour 44 = .ok (.aload_n 0, 1) := by decide +kernel
theorem dX2_pour_45 : decode cX2_pour 45 = .ok (.iload_n 1, 1) := by decide +kernel
theorem dX2_pour_46 : decode cX2_pour 46 = .ok (.invokevirtual 148, 3) := by decide +kernel
theorem dX2_pour_49 : decode cX2_pour 49 = .ok (.i2l, 1) := by decide +kernel
theorem dX2_pour_50 : decode cX2_pour 50 = .ok (.lstore_n 3, 1) := by decide +kernel
theorem dX2_pour_51 : decode cX2_pour 51 = .ok (.aload_n 0, 1) := by decide +kernel
theorem dX2_pour_52 : decode cX2_pour 52 = .ok (.iload_n 2, 1) := by decide +kernel
theorem dX2_pour_53 : decode cX2_pour 53 = .ok (.invokevirtual 148, 3) := by decide +kernel
theorem dX2_pour_56 : decode cX2_pour 56 = .ok (.i2l, 1) := by decide +kernel
theorem dX2_pour_57 : decode cX2_pour 57 = .ok (.lstore 5, 2) := by decide +kernel
theorem dX2_pour_59 : decode cX2_pour 59 = .ok (.lload_n 3, 1) := by decide +kernel
theorem dX2_pour_60 : decode cX2_pour 60 = .ok (.aload_n 0, 1) := by decide +kernel
theorem dX2_pour_61 : decode cX2_pour 61 = .ok (.iload_n 1, 1) := by decide +kernel
theorem dX2_pour_62 : decode cX2_pour 62 = .ok (.aload_n 0, 1) := by decide +kernel
theorem dX2_pour_63 : decode cX2_pour 63 = .ok (.getfield 142, 3) := by decide +kernel
theorem dX2_pour_66 : decode cX2_pour 66 = .ok (.aload_n 0, 1) := by decide +kernel
theorem dX2_pour_67 : decode cX2_pour 67 = .ok (.getfield 159, 3) := by decide +kernel
theorem dX2_pour_70 : decode cX2_pour 70 = .ok (.iconst 0, 1) := by decide +kernel
theorem dX2_pour_71 : decode cX2_pour 71 = .ok (.invokevirtual 166, 3) := by decide +kernel
theorem dX2_pour_74 : decode cX2_pour 74 = .ok (.i2l, 1) := by decide +kernel
theorem dX2_pour_75 : decode cX2_pour 75 = .ok (.lmul, 1) := by decide +kernel
theorem dX2_pour_76 : decode cX2_pour 76 = .ok (.lload 5, 2) := by decide +kernel
theorem dX2_pour_78 : decode cX2_pour 78 = .ok (.aload_n 0, 1) := by decide +kernel
theorem dX2_pour_79 : decode cX2_pour 79 = .ok (.iload_n 2, 1) := by decide +kernel
theorem dX2_pour_80 : decode cX2_pour 80 = .ok (.aload_n 0, 1) := by decide +kernel
theorem dX2_pour_81 : decode cX2_pour 81 = .ok (.getfield 142, 3) := by decide +kernel
theorem dX2_pour_84 : decode cX2_pour 84 = .ok (.aload_n 0, 1) := by decide +kernel
theorem dX2_pour_85 : decode cX2_pour 85 = .ok (.getfield 159, 3) := by decide +kernel
theorem dX2_pour_88 : decode cX2_pour 88 = .ok (.iconst 0, 1) := by decide +kernel
theorem dX2_pour_89 : decode cX2_pour 89 = .ok (.invokevirtual 166, 3) := by decide +kernel
theorem dX2_pour_92 : decode cX2_pour 92 = .ok (.i2l, 1) := by decide +kernel
theorem dX2_pour_93 : decode cX2_pour 93 = .ok (.lmul, 1) := by decide +kernel
theorem dX2_pour_94 : decode cX2_pour 94 = .ok (.ladd, 1) := by decide +kernel
theorem dX2_pour_95 : decode cX2_pour 95 = .ok (.lload_n 3, 1) := by decide +kernel
theorem dX2_pour_96 : decode cX2_pour 96 = .ok (.lload 5, 2) := by decide +kernel
theorem dX2_pour_98 : decode cX2_pour 98 = .ok (.ladd, 1) := by decide +kernel
theorem dX2_pour_99 : decode cX2_pour 99 = .ok (.ldiv, 1) := by decide +kernel
theorem dX2_pour_100 : decode cX2_pour 100 = .ok (.l2i, 1) := by decide +kernel
theorem dX2_pour_101 : decode cX2_pour 101 = .ok (.istore 7, 2) := by decide +kernel
theorem dX2_pour_103 : decode cX2_pour 103 = .ok (.lload_n 3, 1) := by decide +kernel
theorem dX2_pour_104 : decode cX2_pour 104 = .ok (.aload_n 0, 1) := by decide +kernel
theorem dX2_pour_105 : decode cX2_pour 105 = .ok (.iload_n 1, 1) := by decide +kernel
theorem dX2_pour_106 : decode cX2_pour 106 = .ok (.aload_n 0, 1) := by decide +kernel
theorem dX2_pour_107 : decode cX2_pour 107 = .ok (.getfield 142, 3) := by decide +kernel
theorem dX2_pour_110 : decode cX2_pour 110 = .ok (.aload_n 0, 1) := by decide +kernel
theorem dX2_pour_111 : decode cX2_pour 111 = .ok (.getfield 159, 3) := by decide +kernel
theorem dX2_pour_114 : decode cX2_pour 114 = .ok (.iconst 1, 1) := by decide +kernel
theorem dX2_pour_115 : decode cX2_pour 115 = .ok (.invokevirtual 166, 3) := by decide +kernel
theorem dX2_pour_118 : decode cX2_pour 118 = .ok (.i2l, 1) := by decide +kernel
theorem dX2_pour_119 : decode cX2_pour 119 = .ok (.lmul, 1) := by decide +kernel
theorem dX2_pour_120 : decode cX2_pour 120 = .ok (.lload 5, 2) := by decide +kernel
theorem dX2_pour_122 : decode cX2_pour 122 = .ok (.aload_n 0, 1) := by decide +kernel
theorem dX2_pour_123 : decode cX2_pour 123 = .ok (.iload_n 2, 1) := by decide +kernel
theorem dX2_pour_124 : decode cX2_pour 124 = .ok (.aload_n 0, 1) := by decide +kernel
theorem dX2_pour_125 : decode cX2_pour 125 = .ok (.getfield 142, 3) := by decide +kernel
theorem dX2_pour_128 : decode cX2_pour 128 = .ok (.aload_n 0, 1) := by decide +kernel
theorem dX2_pour_129 : decode cX2_pour 129 = .ok (.getfield 159, 3) := by decide +kernel
theorem dX2_pour_132 : decode cX2_pour 132 = .ok (.iconst 1, 1) := by decide +kernel
theorem dX2_pour_133 : decode cX2_pour 133 = .ok (.invokevirtual 166, 3) := by decide +kernel
theorem dX2_pour_136 : decode cX2_pour 136 = .ok (.i2l, 1) := by decide +kernel
theorem dX2_pour_137 : decode cX2_pour 137 = .ok (.lmul, 1) := by decide +kernel
theorem dX2_pour_138 : decode cX2_pour 138 = .ok (.ladd, 1) := by decide +kernel
theorem dX2_pour_139 : decode cX2_pour 139 = .ok (.lload_n 3, 1) := by decide +kernel
theorem dX2_pour_140 : decode cX2_pour 140 = .ok (.ladd, 1) := by decide +kernel
theorem dX2_pour_141 : decode cX2_pour 141 = .ok (.lload 5, 2) := by decide +kernel
theorem dX2_pour_143 : decode cX2_pour 143 = .ok (.ladd, 1) := by decide +kernel
theorem dX2_pour_144 : decode cX2_pour 144 = .ok (.lconst 1, 1) := by decide +kernel
theorem dX2_pour_145 : decode cX2_pour 145 = .ok (.lsub, 1) := by decide +kernel
theorem dX2_pour_146 : decode cX2_pour 146 = .ok (.lload_n 3, 1) := by decide +kernel
theorem dX2_pour_147 : decode cX2_pour 147 = .ok (.lload 5, 2) := by decide +kernel
theorem dX2_pour_149 : decode cX2_pour 149 = .ok (.ladd, 1) := by decide +kernel
theorem dX2_pour_150 : decode cX2_pour 150 = .ok (.ldiv, 1) := by decide +kernel
theorem dX2_pour_151 : decode cX2_pour 151 = .ok (.l2i, 1) := by decide +kernel
theorem dX2_pour_152 : decode cX2_pour 152 = .ok (.istore 8, 2) := by decide +kernel
theorem dX2_pour_154 : decode cX2_pour 154 = .ok (.aload_n 0, 1) := by decide +kernel
theorem dX2_pour_155 : decode cX2_pour 155 = .ok (.getfield 22, 3) := by decide +kernel
theorem dX2_pour_158 : decode cX2_pour 158 = .ok (.iload_n 2, 1) := by decide +kernel
theorem dX2_pour_159 : decode cX2_pour 159 = .ok (.lload_n 3, 1) := by decide +kernel
theorem dX2_pour_160 : decode cX2_pour 160 = .ok (.aload_n 0, 1) := by decide +kernel
theorem dX2_pour_161 : decode cX2_pour 161 = .ok (.getfield 22, 3) := by decide +kernel
theorem dX2_pour_164 : decode cX2_pour 164 = .ok (.iload_n 1, 1) := by decide +kernel
theorem dX2_pour_165 : decode cX2_pour 165 = .ok (.iaload, 1) := by decide +kernel
theorem dX2_pour_166 : decode cX2_pour 166 = .ok (.i2l, 1) := by decide +kernel
theorem dX2_pour_167 : decode cX2_pour 167 = .ok (.lmul, 1) := by decide +kernel
theorem dX2_pour_168 : decode cX2_pour 168 = .ok (.lload 5, 2) := by decide +kernel
theorem dX2_pour_170 : decode cX2_pour 170 = .ok (.aload_n 0, 1) := by decide +kernel
theorem dX2_pour_171 : decode cX2_pour 171 = .ok (.getfield 22, 3) := by decide +kernel
theorem dX2_pour_174 : decode cX2_pour 174 = .ok (.iload_n 2, 1) := by decide +kernel
theorem dX2_pour_175 : decode cX2_pour 175 = .ok (.iaload, 1) := by decide +kernel
theorem dX2_pour_176 : decode cX2_pour 176 = .ok (.i2l, 1) := by decide +kernel
theorem dX2_pour_177 : decode cX2_pour 177 = .ok (.lmul, 1) := by decide +kernel
theorem dX2_pour_178 : decode cX2_pour 178 = .ok (.ladd, 1) := by decide +kernel
theorem dX2_pour_179 : decode cX2_pour 179 = .ok (.lload_n 3, 1) := by decide +kernel
theorem dX2_pour_180 : decode cX2_pour 180 = .ok (.lload 5, 2) := by decide +kernel
theorem dX2_pour_182 : decode cX2_pour 182 = .ok (.ladd, 1) := by decide +kernel
theorem dX2_pour_183 : decode cX2_pour 183 = .ok (.ldiv, 1) := by decide +kernel
theorem dX2_pour_184 : decode cX2_pour 184 = .ok (.l2i, 1) := by decide +kernel
theorem dX2_pour_185 : decode cX2_pour 185 = .ok (.iastore, 1) := by decide +kernel
theorem dX2_pour_186 : decode cX2_pour 186 = .ok (.iconst 0, 1) := by decide +kernel
theorem dX2_pour_187 : decode cX2_pour 187 = .ok (.istore 9, 2) := by decide +kernel
theorem dX2_pour_189 : decode cX2_pour 189 = .ok (.iload 9, 2) := by decide +kernel
theorem dX2_pour_191 : decode cX2_pour 191 = .ok (.bipush 20, 2) := by decide +kernel
theorem dX2_pour_193 : decode cX2_pour 193 = .ok (.if_icmp .ge 49, 3) := by decide +kernel
theorem dX2_pour_196 : decode cX2_pour 196 = .ok (.aload_n 0, 1) := by decide +kernel
theorem dX2_pour_197 : decode cX2_pour 197 = .ok (.getfield 13, 3) := by decide +kernel
theorem dX2_pour_200 : decode cX2_pour 200 = .ok (.bipush 20, 2) := by decide +kernel
theorem dX2_pour_202 : decode cX2_pour 202 = .ok (.iload_n 2, 1) := by decide +kernel
theorem dX2_pour_203 : decode cX2_pour 203 = .ok (.imul, 1) := by decide +kernel
theorem dX2_pour_204 : decode cX2_pour 204 = .ok (.iload 9, 2) := by decide +kernel
theorem dX2_pour_206 : decode cX2_pour 206 = .ok (.iadd, 1) := by decide +kernel
theorem dX2_pour_207 : decode cX2_pour 207 = .ok (.dup2, 1) := by decide +kernel
theorem dX2_pour_208 : decode cX2_pour 208 = .ok (.iaload, 1) := by decide +kernel
theorem dX2_pour_209 : decode cX2_pour 209 = .ok (.aload_n 0, 1) := by decide +kernel
theorem dX2_pour_210 : decode cX2_pour 210 = .ok (.getfield 13, 3) := by decide +kernel
theorem dX2_pour_213 : decode cX2_pour 213 = .ok (.bipush 20, 2) := by decide +kernel
theorem dX2_pour_215 : decode cX2_pour 215 = .ok (.iload_n 1, 1) := by decide +kernel
theorem dX2_pour_216 : decode cX2_pour 216 = .ok (.imul, 1) := by decide +kernel
theorem dX2_pour_217 : decode cX2_pour 217 = .ok (.iload 9, 2) := by decide +kernel
theorem dX2_pour_219 : decode cX2_pour 219 = .ok (.iadd, 1) := by decide +kernel
theorem dX2_pour_220 : decode cX2_pour 220 = .ok (.iaload, 1) := by decide +kernel
theorem dX2_pour_221 : decode cX2_pour 221 = .ok (.iadd, 1) := by decide +kernel
theorem dX2_pour_222 : decode cX2_pour 222 = .ok (.iastore, 1) := by decide +kernel
theorem dX2_pour_223 : decode cX2_pour 223 = .ok (.aload_n 0, 1) := by decide +kernel
theorem dX2_pour_224 : decode cX2_pour 224 = .ok (.getfield 13, 3) := by decide +kernel
theorem dX2_pour_227 : decode cX2_pour 227 = .ok (.bipush 20, 2) := by decide +kernel
theorem dX2_pour_229 : decode cX2_pour 229 = .ok (.iload_n 1, 1) := by decide +kernel
theorem dX2_pour_230 : decode cX2_pour 230 = .ok (.imul, 1) := by decide +kernel
theorem dX2_pour_231 : decode cX2_pour 231 = .ok (.iload 9, 2) := by decide +kernel
theorem dX2_pour_233 : decode cX2_pour 233 = .ok (.iadd, 1) := by decide +kernel
theorem dX2_pour_234 : decode cX2_pour 234 = .ok (.iconst 0, 1) := by decide +kernel
theorem dX2_pour_235 : decode cX2_pour 235 = .ok (.iastore, 1) := by decide +kernel
theorem dX2_pour_236 : decode cX2_pour 236 = .ok (.iinc 9 1, 3) := by decide +kernel
theorem dX2_pour_239 : decode cX2_pour 239 = .ok (.goto (-50), 3) := by decide +kernel
theorem dX2_pour_242 : decode cX2_pour 242 = .ok (.aload_n 0, 1) := by decide +kernel
theorem dX2_pour_243 : decode cX2_pour 243 = .ok (.getfield 31, 3) := by decide +kernel
theorem dX2_pour_246 : decode cX2_pour 246 = .ok (.iload_n 2, 1) := by decide +kernel
theorem dX2_pour_247 : decode cX2_pour 247 = .ok (.iload 7, 2) := by decide +kernel
theorem dX2_pour_249 : decode cX2_pour 249 = .ok (.iastore, 1) := by decide +kernel
theorem dX2_pour_250 : decode cX2_pour 250 = .ok (.aload_n 0, 1) := by decide +kernel
theorem dX2_pour_251 : decode cX2_pour 251 = .ok (.getfield 34, 3) := by decide +kernel
theorem dX2_pour_254 : decode cX2_pour 254 = .ok (.iload_n 2, 1) := by decide +kernel
theorem dX2_pour_255 : decode cX2_pour 255 = .ok (.iload 8, 2) := by decide +kernel
theorem dX2_pour_257 : decode cX2_pour 257 = .ok (.iastore, 1) := by decide +kernel
theorem dX2_pour_258 : decode cX2_pour 258 = .ok (.aload_n 0, 1) := by decide +kernel
theorem dX2_pour_259 : decode cX2_pour 259 = .ok (.getfield 28, 3) := by decide +kernel
theorem dX2_pour_262 : decode cX2_pour 262 = .ok (.iload_n 2, 1) := by decide +kernel
theorem dX2_pour_263 : decode cX2_pour 263 = .ok (.aload_n 0, 1) := by decide +kernel
theorem dX2_pour_264 : decode cX2_pour 264 = .ok (.getfield 142, 3) := by decide +kernel
theorem dX2_pour_267 : decode cX2_pour 267 = .ok (.iastore, 1) := by decide +kernel
theorem dX2_pour_268 : decode cX2_pour 268 = .ok (.aload_n 0, 1) := by decide +kernel
theorem dX2_pour_269 : decode cX2_pour 269 = .ok (.getfield 25, 3) := by decide +kernel
theorem dX2_pour_272 : decode cX2_pour 272 = .ok (.iload_n 2, 1) := by decide +kernel
theorem dX2_pour_273 : decode cX2_pour 273 = .ok (.aload_n 0, 1) := by decide +kernel
theorem dX2_pour_274 : decode cX2_pour 274 = .ok (.getfield 25, 3) := by decide +kernel
theorem dX2_pour_277 : decode cX2_pour 277 = .ok (.iload_n 1, 1) := by decide +kernel
theorem dX2_pour_278 : decode cX2_pour 278 = .ok (.iaload, 1) := by decide +kernel
theorem dX2_pour_279 : decode cX2_pour 279 = .ok (.aload_n 0, 1) := by decide +kernel
theorem dX2_pour_280 : decode cX2_pour 280 = .ok (.getfield 25, 3) := by decide +kernel
theorem dX2_pour_283 : decode cX2_pour 283 = .ok (.iload_n 2, 1) := by decide +kernel
theorem dX2_pour_284 : decode cX2_pour 284 = .ok (.iaload, 1) := by decide +kernel
theorem dX2_pour_285 : decode cX2_pour 285 = .ok (.if_icmp .le 12, 3) := by decide +kernel
theorem dX2_pour_288 : decode cX2_pour 288 = .ok (.aload_n 0, 1) := by decide +kernel
theorem dX2_pour_289 : decode cX2_pour 289 = .ok (.getfield 25, 3) := by decide +kernel
theorem dX2_pour_292 : decode cX2_pour 292 = .ok (.iload_n 1, 1) := by decide +kernel
theorem dX2_pour_293 : decode cX2_pour 293 = .ok (.iaload, 1) := by decide +kernel
theorem dX2_pour_294 : decode cX2_pour 294 = .ok (.goto 9, 3) := by decide +kernel
theorem dX2_pour_297 : decode cX2_pour 297 = .ok (.aload_n 0, 1) := by decide +kernel
theorem dX2_pour_298 : decode cX2_pour 298 = .ok (.getfield 25, 3) := by decide +kernel
theorem dX2_pour_301 : decode cX2_pour 301 = .ok (.iload_n 2, 1) := by decide +kernel
theorem dX2_pour_302 : decode cX2_pour 302 = .ok (.iaload, 1) := by decide +kernel
theorem dX2_pour_303 : decode cX2_pour 303 = .ok (.iastore, 1) := by decide +kernel
theorem dX2_pour_304 : decode cX2_pour 304 = .ok (.aload_n 0, 1) := by decide +kernel
theorem dX2_pour_305 : decode cX2_pour 305 = .ok (.getfield 19, 3) := by decide +kernel
theorem dX2_pour_308 : decode cX2_pour 308 = .ok (.iload_n 2, 1) := by decide +kernel
theorem dX2_pour_309 : decode cX2_pour 309 = .ok (.iconst 0, 1) := by decide +kernel
theorem dX2_pour_310 : decode cX2_pour 310 = .ok (.iastore, 1) := by decide +kernel
theorem dX2_pour_311 : decode cX2_pour 311 = .ok (.aload_n 0, 1) := by decide +kernel
theorem dX2_pour_312 : decode cX2_pour 312 = .ok (.getfield 19, 3) := by decide +kernel
theorem dX2_pour_315 : decode cX2_pour 315 = .ok (.iload_n 1, 1) := by decide +kernel
theorem dX2_pour_316 : decode cX2_pour 316 = .ok (.iconst 4, 1) := by decide +kernel
theorem dX2_pour_317 : decode cX2_pour 317 = .ok (.iastore, 1) := by decide +kernel
theorem dX2_pour_318 : decode cX2_pour 318 = .ok (.aload_n 0, 1) := by decide +kernel
theorem dX2_pour_319 : decode cX2_pour 319 = .ok (.iload_n 2, 1) := by decide +kernel
theorem dX2_pour_320 : decode cX2_pour 320 = .ok (.invokevirtual 148, 3) := by decide +kernel
theorem dX2_pour_323 : decode cX2_pour 323 = .ok (.ireturn, 1) := by decide +kernel
theorem dX2_limits_0 : decode cX2_limits 0 = .ok (.aload_n 0, 1) := by decide +kernel
theorem dX2_limits_1 : decode cX2_limits 1 = .ok (.iconst 0, 1) := by decide +kernel
theorem dX2_limits_2 : decode cX2_limits 2 = .ok (.putfield 121, 3) := by decide +kernel
theorem dX2_limits_5 : decode cX2_limits 5 = .ok (.iload_n 1, 1) := by decide +kernel
theorem dX2_limits_6 : decode cX2_limits 6 = .ok (.iconst 0, 1) := by decide +kernel
theorem dX2_limits_7 : decode cX2_limits 7 = .ok (.sipush 1000, 3) := by decide +kernel
theorem dX2_limits_10 : decode cX2_limits 10 = .ok (.invokestatic 128, 3) := by decide +kernel
theorem dX2_limits_13 : decode cX2_limits 13 = .ok (.ifCond .eq 14, 3) := by decide +kernel
theorem dX2_limits_16 : decode cX2_limits 16 = .ok (.iload_n 2, 1) := by decide +kernel
theorem dX2_limits_17 : decode cX2_limits 17 = .ok (.iload_n 1, 1) := by decide +kernel
theorem dX2_limits_18 : decode cX2_limits 18 = .ok (.sipush 1000, 3) := by decide +kernel
theorem dX2_limits_21 : decode cX2_limits 21 = .ok (.invokestatic 128, 3) := by decide +kernel
theorem dX2_limits_24 : decode cX2_limits 24 = .ok (.ifCond .ne 5, 3) := by decide +kernel
theorem dX2_limits_27 : decode cX2_limits 27 = .ok (.iconst 0, 1) := by decide +kernel
theorem dX2_limits_28 : decode cX2_limits 28 = .ok (.ireturn, 1) := by decide +kernel
theorem dX2_limits_29 : decode cX2_limits 29 = .ok (.aload_n 0, 1) := by decide +kernel
theorem dX2_limits_30 : decode cX2_limits 30 = .ok (.iload_n 1, 1) := by decide +kernel
theorem dX2_limits_31 : decode cX2_limits 31 = .ok (.putfield 283, 3) := by decide +kernel
theorem dX2_limits_34 : decode cX2_limits 34 = .ok (.aload_n 0, 1) := by decide +kernel
theorem dX2_limits_35 : decode cX2_limits 35 = .ok (.iload_n 2, 1) := by decide +kernel
theorem dX2_limits_36 : decode cX2_limits 36 = .ok (.putfield 97, 3) := by decide +kernel
theorem dX2_limits_39 : decode cX2_limits 39 = .ok (.iconst 1, 1) := by decide +kernel
theorem dX2_limits_40 : decode cX2_limits 40 = .ok (.ireturn, 1) := by decide +kernel
theorem dX2_jar_0 : decode cX2_jar 0 = .ok (.aload_n 0, 1) := by decide +kernel
theorem dX2_jar_1 : decode cX2_jar 1 = .ok (.iconst 0, 1) := by decide +kernel
theorem dX2_jar_2 : decode cX2_jar 2 = .ok (.putfield 121, 3) := by decide +kernel
theorem dX2_jar_5 : decode cX2_jar 5 = .ok (.aload_n 0, 1) := by decide +kernel
theorem dX2_jar_6 : decode cX2_jar 6 = .ok (.iload_n 1, 1) := by decide +kernel
theorem dX2_jar_7 : decode cX2_jar 7 = .ok (.invokevirtual 145, 3) := by decide +kernel
theorem dX2_jar_10 : decode cX2_jar 10 = .ok (.ifCond .eq 26, 3) := by decide +kernel
theorem dX2_jar_13 : decode cX2_jar 13 = .ok (.iload_n 2, 1) := by decide +kernel
theorem dX2_jar_14 : decode cX2_jar 14 = .ok (.iconst 1, 1) := by decide +kernel
theorem dX2_jar_15 : decode cX2_jar 15 = .ok (.if_icmp .lt 21, 3) := by decide +kernel
theorem dX2_jar_18 : decode cX2_jar 18 = .ok (.iload_n 2, 1) := by decide +kernel
theorem dX2_jar_19 : decode cX2_jar 19 = .ok (.aload_n 0, 1) := by decide +kernel
theorem dX2_jar_20 : decode cX2_jar 20 = .ok (.iload_n 1, 1) := by decide +kernel
theorem dX2_jar_21 : decode cX2_jar 21 = .ok (.invokevirtual 148, 3) := by decide +kernel
theorem dX2_jar_24 : decode cX2_jar 24 = .ok (.if_icmp .gt 12, 3) := by decide +kernel
theorem dX2_jar_27 : decode cX2_jar 27 = .ok (.aload_n 0, 1) := by decide +kernel
theorem dX2_jar_28 : decode cX2_jar 28 = .ok (.getfield 286, 3) := by decide +kernel
theorem dX2_jar_31 : decode cX2_jar 31 = .ok (.bipush 60, 2) := by decide +kernel
theorem dX2_jar_33 : decode cX2_jar 33 = .ok (.if_icmp .ne 5, 3) := by decide +kernel
theorem dX2_jar_36 : decode cX2_jar 36 = .ok (.iconst (-1), 1) := by decide +kernel
theorem dX2_jar_37 : decode cX2_jar 37 = .ok (.ireturn, 1) := by decide +kernel
theorem dX2_jar_38 : decode cX2_jar 38 = .ok (.aload_n 0, 1) := by decide +kernel
theorem dX2_jar_39 : decode cX2_jar 39 = .ok (.iload_n 1, 1) := by decide +kernel
theorem dX2_jar_40 : decode cX2_jar 40 = .ok (.invokevirtual 289, 3) := by decide +kernel
theorem dX2_jar_43 : decode cX2_jar 43 = .ok (.ifCond .ne 6, 3) := by decide +kernel
theorem dX2_jar_46 : decode cX2_jar 46 = .ok (.bipush (-2), 2) := by decide +kernel
theorem dX2_jar_48 : decode cX2_jar 48 = .ok (.ireturn, 1) := by decide +kernel
theorem dX2_jar_49 : decode cX2_jar 49 = .ok (.aload_n 0, 1) := by decide +kernel
theorem dX2_jar_50 : decode cX2_jar 50 = .ok (.iload_n 1, 1) := by decide +kernel
theorem dX2_jar_51 : decode cX2_jar 51 = .ok (.iload_n 2, 1) := by decide +kernel
theorem dX2_jar_52 : decode cX2_jar 52 = .ok (.aload_n 0, 1) := by decide +kernel
theorem dX2_jar_53 : decode cX2_jar 53 = .ok (.getfield 286, 3) := by decide +kernel
theorem dX2_jar_56 : decode cX2_jar 56 = .ok (.invokevirtual 292, 3) := by decide +kernel
theorem dX2_jar_59 : decode cX2_jar 59 = .ok (.iconst 0, 1) := by decide +kernel
theorem dX2_jar_60 : decode cX2_jar 60 = .ok (.istore_n 3, 1) := by decide +kernel
theorem dX2_jar_61 : decode cX2_jar 61 = .ok (.iload_n 3, 1) := by decide +kernel
theorem dX2_jar_62 : decode cX2_jar 62 = .ok (.bipush 20, 2) := by decide +kernel
theorem dX2_jar_64 : decode cX2_jar 64 = .ok (.if_icmp .ge 37, 3) := by decide +kernel
theorem dX2_jar_67 : decode cX2_jar 67 = .ok (.aload_n 0, 1) := by decide +kernel
theorem dX2_jar_68 : decode cX2_jar 68 = .ok (.getfield 13, 3) := by decide +kernel
theorem dX2_jar_71 : decode cX2_jar 71 = .ok (.bipush 20, 2) := by decide +kernel
theorem dX2_jar_73 : decode cX2_jar 73 = .ok (.iload_n 1, 1) := by decide +kernel
theorem dX2_jar_74 : decode cX2_jar 74 = .ok (.imul, 1) := by decide +kernel
theorem dX2_jar_75 : decode cX2_jar 75 = .ok (.iload_n 3, 1) := by decide +kernel
theorem dX2_jar_76 : decode cX2_jar 76 = .ok (.iadd, 1) := by decide +kernel
theorem dX2_jar_77 : decode cX2_jar 77 = .ok (.dup2, 1) := by decide +kernel
theorem dX2_jar_78 : decode cX2_jar 78 = .ok (.iaload, 1) := by decide +kernel
theorem dX2_jar_79 : decode cX2_jar 79 = .ok (.aload_n 0, 1) := by decide +kernel
theorem dX2_jar_80 : decode cX2_jar 80 = .ok (.getfield 94, 3) := by decide +kernel
theorem dX2_jar_83 : decode cX2_jar 83 = .ok (.bipush 20, 2) := by decide +kernel
theorem dX2_jar_85 : decode cX2_jar 85 = .ok (.aload_n 0, 1) := by decide +kernel
theorem dX2_jar_86 : decode cX2_jar 86 = .ok (.getfield 286, 3) := by decide +kernel
theorem dX2_jar_89 : decode cX2_jar 89 = .ok (.imul, 1) := by decide +kernel
theorem dX2_jar_90 : decode cX2_jar 90 = .ok (.iload_n 3, 1) := by decide +kernel
theorem dX2_jar_91 : decode cX2_jar 91 = .ok (.iadd, 1) := by decide +kernel
theorem dX2_jar_92 : decode cX2_jar 92 = .ok (.iaload, 1) := by decide +kernel
theorem dX2_jar_93 : decode cX2_jar 93 = .ok (.isub, 1) := by decide +kernel
theorem dX2_jar_94 : decode cX2_jar 94 = .ok (.iastore, 1) := by decide +kernel
theorem dX2_jar_95 : decode cX2_jar 95 = .ok (.iinc 3 1, 3) := by decide +kernel
theorem dX2_jar_98 : decode cX2_jar 98 = .ok (.goto (-37), 3) := by decide +kernel
theorem dX2_jar_101 : decode cX2_jar 101 = .ok (.aload_n 0, 1) := by decide +kernel
theorem dX2_jar_102 : decode cX2_jar 102 = .ok (.dup, 1) := by decide +kernel
theorem dX2_jar_103 : decode cX2_jar 103 = .ok (.getfield 286, 3) := by decide +kernel
theorem dX2_jar_106 : decode cX2_jar 106 = .ok (.iconst 1, 1) := by decide +kernel
theorem dX2_jar_107 : decode cX2_jar 107 = .ok (.iadd, 1) := by decide +kernel
theorem dX2_jar_108 : decode cX2_jar 108 = .ok (.putfield 286, 3) := by decide +kernel
theorem dX2_jar_111 : decode cX2_jar 111 = .ok (.aload_n 0, 1) := by decide +kernel
theorem dX2_jar_112 : decode cX2_jar 112 = .ok (.getfield 286, 3) := by decide +kernel
theorem dX2_jar_115 : decode cX2_jar 115 = .ok (.iconst 1, 1) := by decide +kernel
theorem dX2_jar_116 : decode cX2_jar 116 = .ok (.isub, 1) := by decide +kernel
theorem dX2_jar_117 : decode cX2_jar 117 = .ok (.ireturn, 1) := by decide +kernel
theorem dX2_isFit_0 : decode cX2_isFit 0 = .ok (.aload_n 0, 1) := by decide +kernel
theorem dX2_isFit_1 : decode cX2_isFit 1 = .ok (.getfield 19, 3) := by decide +kernel
theorem dX2_isFit_4 : decode cX2_isFit 4 = .ok (.iload_n 1, 1) := by decide +kernel
theorem dX2_isFit_5 : decode cX2_isFit 5 = .ok (.iaload, 1) := by decide +kernel
theorem dX2_isFit_6 : decode cX2_isFit 6 = .ok (.iconst 1, 1) := by decide +kernel
theorem dX2_isFit_7 : decode cX2_isFit 7 = .ok (.if_icmp .eq 5, 3) := by decide +kernel
theorem dX2_isFit_10 : decode cX2_isFit 10 = .ok (.iconst 0, 1) := by decide +kernel
theorem dX2_isFit_11 : decode cX2_isFit 11 = .ok (.ireturn, 1) := by decide +kernel
theorem dX2_isFit_12 : decode cX2_isFit 12 = .ok (.aload_n 0, 1) := by decide +kernel
theorem dX2_isFit_13 : decode cX2_isFit 13 = .ok (.iload_n 1, 1) := by decide +kernel
theorem dX2_isFit_14 : decode cX2_isFit 14 = .ok (.aload_n 0, 1) := by decide +kernel
theorem dX2_isFit_15 : decode cX2_isFit 15 = .ok (.getfield 142, 3) := by decide +kernel
theorem dX2_isFit_18 : decode cX2_isFit 18 = .ok (.aload_n 0, 1) := by decide +kernel
theorem dX2_isFit_19 : decode cX2_isFit 19 = .ok (.getfield 159, 3) := by decide +kernel
theorem dX2_isFit_22 : decode cX2_isFit 22 = .ok (.invokevirtual 162, 3) := by decide +kernel
theorem dX2_isFit_25 : decode cX2_isFit 25 = .ok (.istore_n 2, 1) := by decide +kernel
theorem dX2_isFit_26 : decode cX2_isFit 26 = .ok (.iload_n 2, 1) := by decide +kernel
theorem dX2_isFit_27 : decode cX2_isFit 27 = .ok (.iconst (-1), 1) := by decide +kernel
theorem dX2_isFit_28 : decode cX2_isFit 28 = .ok (.if_icmp .eq 27, 3) := by decide +kernel
theorem dX2_isFit_31 : decode cX2_isFit 31 = .ok (.aload_n 0, 1) := by decide +kernel
theorem dX2_isFit_32 : decode cX2_isFit 32 = .ok (.getfield 60, 3) := by decide +kernel
theorem dX2_isFit_35 : decode cX2_isFit 35 = .ok (.iload_n 2, 1) := by decide +kernel
theorem dX2_isFit_36 : decode cX2_isFit 36 = .ok (.iaload, 1) := by decide +kernel
theorem dX2_isFit_37 : decode cX2_isFit 37 = .ok (.aload_n 0, 1) := by decide +kernel
theorem dX2_isFit_38 : decode cX2_isFit 38 = .ok (.getfield 283, 3) := by decide +kernel
theorem dX2_isFit_41 : decode cX2_isFit 41 = .ok (.aload_n 0, 1) := by decide +kernel
theorem dX2_isFit_42 : decode cX2_isFit 42 = .ok (.getfield 97, 3) := by decide +kernel
theorem dX2_isFit_45 : decode cX2_isFit 45 = .ok (.invokestatic 128, 3) := by decide +kernel
theorem dX2_isFit_48 : decode cX2_isFit 48 = .ok (.ifCond .eq 7, 3) := by decide +kernel
theorem dX2_isFit_51 : decode cX2_isFit 51 = .ok (.iconst 1, 1) := by decide +kernel
theorem dX2_isFit_52 : decode cX2_isFit 52 = .ok (.goto 4, 3) := by decide +kernel
theorem dX2_isFit_55 : decode cX2_isFit 55 = .ok (.iconst 0, 1) := by decide +kernel
theorem dX2_isFit_56 : decode cX2_isFit 56 = .ok (.ireturn, 1) := by decide +kernel
theorem dX2_parts_0 : decode cX2_parts 0 = .ok (.aload_n 0, 1) := by decide +kernel
theorem dX2_parts_1 : decode cX2_parts 1 = .ok (.iload_n 1, 1) := by decide +kernel
theorem dX2_parts_2 : decode cX2_parts 2 = .ok (.invokevirtual 148, 3) := by decide +kernel
theorem dX2_parts_5 : decode cX2_parts 5 = .ok (.istore 4, 2) := by decide +kernel
theorem dX2_parts_7 : decode cX2_parts 7 = .ok (.iload_n 2, 1) := by decide +kernel
theorem dX2_parts_8 : decode cX2_parts 8 = .ok (.istore 5, 2) := by decide +kernel
theorem dX2_parts_10 : decode cX2_parts 10 = .ok (.bipush 20, 2) := by decide +kernel
theorem dX2_parts_12 : decode cX2_parts 12 = .ok (.newarray .boolean, 2) := by decide +kernel
theorem dX2_parts_14 : decode cX2_parts 14 = .ok (.astore 6, 2) := by decide +kernel
theorem dX2_parts_16 : decode cX2_parts 16 = .ok (.iconst 0, 1) := by decide +kernel
theorem dX2_parts_17 : decode cX2_parts 17 = .ok (.istore 7, 2) := by decide +kernel
theorem dX2_parts_19 : decode cX2_parts 19 = .ok (.iload 7, 2) := by decide +kernel
theorem dX2_parts_21 : decode cX2_parts 21 = .ok (.bipush 20, 2) := by decide +kernel
theorem dX2_parts_23 : decode cX2_parts 23 = .ok (.if_icmp .ge 59, 3) := by decide +kernel
theorem dX2_parts_26 : decode cX2_parts 26 = .ok (.aload_n 0, 1) := by decide +kernel
theorem dX2_parts_27 : decode cX2_parts 27 = .ok (.getfield 94, 3) := by decide +kernel
theorem dX2_parts_30 : decode cX2_parts 30 = .ok (.bipush 20, 2) := by decide +kernel
theorem dX2_parts_32 : decode cX2_parts 32 = .ok (.iload_n 3, 1) := by decide +kernel
theorem dX2_parts_33 : decode cX2_parts 33 = .ok (.imul, 1) := by decide +kernel
theorem dX2_parts_34 : decode cX2_parts 34 = .ok (.iload 7, 2) := by decide +kernel
theorem dX2_parts_36 : decode cX2_parts 36 = .ok (.iadd, 1) := by decide +kernel
theorem dX2_parts_37 : decode cX2_parts 37 = .ok (.aload_n 0, 1) := by decide +kernel
theorem dX2_parts_38 : decode cX2_parts 38 = .ok (.getfield 13, 3) := by decide +kernel
theorem dX2_parts_41 : decode cX2_parts 41 = .ok (.bipush 20, 2) := by decide +kernel
theorem dX2_parts_43 : decode cX2_parts 43 = .ok (.iload_n 1, 1) := by decide +kernel
theorem dX2_parts_44 : decode cX2_parts 44 = .ok (.imul, 1) := by decide +kernel
theorem dX2_parts_45 : decode cX2_parts 45 = .ok (.iload 7, 2) := by decide +kernel
theorem dX2_parts_47 : decode cX2_parts 47 = .ok (.iadd, 1) := by decide +kernel
theorem dX2_parts_48 : decode cX2_parts 48 = .ok (.iaload, 1) := by decide +kernel
theorem dX2_parts_49 : decode cX2_parts 49 = .ok (.i2l, 1) := by decide +kernel
theorem dX2_parts_50 : decode cX2_parts 50 = .ok (.iload_n 2, 1) := by decide +kernel
theorem dX2_parts_51 : decode cX2_parts 51 = .ok (.i2l, 1) := by decide +kernel
theorem dX2_parts_52 : decode cX2_parts 52 = .ok (.lmul, 1) := by decide +kernel
theorem dX2_parts_53 : decode cX2_parts 53 = .ok (.iload 4, 2) := by decide +kernel
theorem dX2_parts_55 : decode cX2_parts 55 = .ok (.i2l, 1) := by decide +kernel
theorem dX2_parts_56 : decode cX2_parts 56 = .ok (.ldiv, 1) := by decide +kernel
theorem dX2_parts_57 : decode cX2_parts 57 = .ok (.l2i, 1) := by decide +kernel
theorem dX2_parts_58 : decode cX2_parts 58 = .ok (.iastore, 1) := by decide +kernel
theorem dX2_parts_59 : decode cX2_parts 59 = .ok (.iload 5, 2) := by decide +kernel
theorem dX2_parts_61 : decode cX2_parts 61 = .ok (.aload_n 0, 1) := by decide +kernel
theorem dX2_parts_62 : decode cX2_parts 62 = .ok (.getfield 94, 3) := by decide +kernel
theorem dX2_parts_65 : decode cX2_parts 65 = .ok (.bipush 20, 2) := by decide +kernel
theorem dX2_parts_67 : decode cX2_parts 67 = .ok (.iload_n 3, 1) := by decide +kernel
theorem dX2_parts_68 : decode cX2_parts 68 = .ok (.imul, 1) := by decide +kernel
theorem dX2_parts_69 : decode cX2_parts 69 = .ok (.iload 7, 2) := by decide +kernel
theorem dX2_parts_71 : decode cX2_parts 71 = .ok (.iadd, 1) := by decide +kernel
theorem dX2_parts_72 : decode cX2_parts 72 = .ok (.iaload, 1) := by decide +kernel
theorem dX2_parts_73 : decode cX2_parts 73 = .ok (.isub, 1) := by decide +kernel
theorem dX2_parts_74 : decode cX2_parts 74 = .ok (.istore 5, 2) := by decide +kernel
theorem dX2_parts_76 : decode cX2_parts 76 = .ok (.iinc 7 1, 3) := by decide +kernel
theorem dX2_parts_79 : decode cX2_parts 79 = .ok (.goto (-60), 3) := by decide +kernel
theorem dX2_parts_82 : decode cX2_parts 82 = .ok (.iconst 0, 1) := by decide +kernel
theorem dX2_parts_83 : decode cX2_parts 83 = .ok (.istore 7, 2) := by decide +kernel
theorem dX2_parts_85 : decode cX2_parts 85 = .ok (.iload 7, 2) := by decide +kernel
theorem dX2_parts_87 : decode cX2_parts 87 = .ok (.iload 5, 2) := by decide +kernel
theorem dX2_parts_89 : decode cX2_parts 89 = .ok (.if_icmp .ge 92, 3) := by decide +kernel
theorem dX2_parts_92 : decode cX2_parts 92 = .ok (.iconst (-1), 1) := by decide +kernel
theorem dX2_parts_93 : decode cX2_parts 93 = .ok (.istore 8, 2) := by decide +kernel
theorem dX2_parts_95 : decode cX2_parts 95 = .ok (.iconst 0, 1) := by decide +kernel
theorem dX2_parts_96 : decode cX2_parts 96 = .ok (.istore 9, 2) := by decide +kernel
theorem dX2_parts_98 : decode cX2_parts 98 = .ok (.iload 9, 2) := by decide +kernel
theorem dX2_parts_100 : decode cX2_parts 100 = .ok (.bipush 20, 2) := by decide +kernel
theorem dX2_parts_102 : decode cX2_parts 102 = .ok (.if_icmp .ge 51, 3) := by decide +kernel
theorem dX2_parts_105 : decode cX2_parts 105 = .ok (.aload 6, 2) := by decide +kernel
theorem dX2_parts_107 : decode cX2_parts 107 = .ok (.iload 9, 2) := by decide +kernel
theorem dX2_parts_109 : decode cX2_parts 109 = .ok (.baload, 1) := by decide +kernel
theorem dX2_parts_110 : decode cX2_parts 110 = .ok (.ifCond .ne 37, 3) := by decide +kernel
theorem dX2_parts_113 : decode cX2_parts 113 = .ok (.iload 8, 2) := by decide +kernel
theorem dX2_parts_115 : decode cX2_parts 115 = .ok (.iconst (-1), 1) := by decide +kernel
theorem dX2_parts_116 : decode cX2_parts 116 = .ok (.if_icmp .eq 27, 3) := by decide +kernel
theorem dX2_parts_119 : decode cX2_parts 119 = .ok (.aload_n 0, 1) := by decide +kernel
theorem dX2_parts_120 : decode cX2_parts 120 = .ok (.iload_n 1, 1) := by decide +kernel
theorem dX2_parts_121 : decode cX2_parts 121 = .ok (.iload 9, 2) := by decide +kernel
theorem dX2_parts_123 : decode cX2_parts 123 = .ok (.iload_n 2, 1) := by decide +kernel
theorem dX2_parts_124 : decode cX2_parts 124 = .ok (.iload 4, 2) := by decide +kernel
theorem dX2_parts_126 : decode cX2_parts 126 = .ok (.invokevirtual 279, 3) := by decide +kernel
theorem dX2_parts_129 : decode cX2_parts 129 = .ok (.aload_n 0, 1) := by decide +kernel
theorem dX2_parts_130 : decode cX2_parts 130 = .ok (.iload_n 1, 1) := by decide +kernel
theorem dX2_parts_131 : decode cX2_parts 131 = .ok (.iload 8, 2) := by decide +kernel
theorem dX2_parts_133 : decode cX2_parts 133 = .ok (.iload_n 2, 1) := by decide +kernel
theorem dX2_parts_134 : decode cX2_parts 134 = .ok (.iload 4, 2) := by decide +kernel
theorem dX2_parts_136 : decode cX2_parts 136 = .ok (.invokevirtual 279, 3) := by decide +kernel
theorem dX2_parts_139 : decode cX2_parts 139 = .ok (.lcmp, 1) := by decide +kernel
theorem dX2_parts_140 : decode cX2_parts 140 = .ok (.ifCond .le 7, 3) := by decide +kernel
theorem dX2_parts_143 : decode cX2_parts 143 = .ok (.iload 9, 2) := by decide +kernel
theorem dX2_parts_145 : decode cX2_parts 145 = .ok (.istore 8, 2) := by decide +kernel
theorem dX2_parts_147 : decode cX2_parts 147 = .ok (.iinc 9 1, 3) := by decide +kernel
theorem dX2_parts_150 : decode cX2_parts 150 = .ok (.goto (-52), 3) := by decide +kernel
theorem dX2_parts_153 : decode cX2_parts 153 = .ok (.aload 6, 2) := by decide +kernel
theorem dX2_parts_155 : decode cX2_parts 155 = .ok (.iload 8, 2) := by decide +kernel
theorem dX2_parts_157 : decode cX2_parts 157 = .ok (.iconst 1, 1) := by decide +kernel
theorem dX2_parts_158 : decode cX2_parts 158 = .ok (.bastore, 1) := by decide +kernel
theorem dX2_parts_159 : decode cX2_parts 159 = .ok (.aload_n 0, 1) := by decide +kernel
theorem dX2_parts_160 : decode cX2_parts 160 = .ok (.getfield 94, 3) := by decide +kernel
theorem dX2_parts_163 : decode cX2_parts 163 = .ok (.bipush 20, 2) := by decide +kernel
theorem dX2_parts_165 : decode cX2_parts 165 = .ok (.iload_n 3, 1) := by decide +kernel
theorem dX2_parts_166 : decode cX2_parts 166 = .ok (.imul, 1) := by decide +kernel
theorem dX2_parts_167 : decode cX2_parts 167 = .ok (.iload 8, 2) := by decide +kernel
theorem dX2_parts_169 : decode cX2_parts 169 = .ok (.iadd, 1) := by decide +kernel
theorem dX2_parts_170 : decode cX2_parts 170 = .ok (.dup2, 1) := by decide +kernel
theorem dX2_parts_171 : decode cX2_parts 171 = .ok (.iaload, 1) := by decide +kernel
theorem dX2_parts_172 : decode cX2_parts 172 = .ok (.iconst 1, 1) := by decide +kernel
theorem dX2_parts_173 : decode cX2_parts 173 = .ok (.iadd, 1) := by decide +kernel
theorem dX2_parts_174 : decode cX2_parts 174 = .ok (.iastore, 1) := by decide +kernel
theorem dX2_parts_175 : decode cX2_parts 175 = .ok (.iinc 7 1, 3) := by decide +kernel
theorem dX2_parts_178 : decode cX2_parts 178 = .ok (.goto (-93), 3) := by decide +kernel
theorem dX2_parts_181 : decode cX2_parts 181 = .ok (.return_, 1) := by decide +kernel
theorem dX2_rest_0 : decode cX2_rest 0 = .ok (.aload_n 0, 1) := by decide +kernel
theorem dX2_rest_1 : decode cX2_rest 1 = .ok (.getfield 13, 3) := by decide +kernel
theorem dX2_rest_4 : decode cX2_rest 4 = .ok (.bipush 20, 2) := by decide +kernel
theorem dX2_rest_6 : decode cX2_rest 6 = .ok (.iload_n 1, 1) := by decide +kernel
theorem dX2_rest_7 : decode cX2_rest 7 = .ok (.imul, 1) := by decide +kernel
theorem dX2_rest_8 : decode cX2_rest 8 = .ok (.iload_n 2, 1) := by decide +kernel
theorem dX2_rest_9 : decode cX2_rest 9 = .ok (.iadd, 1) := by decide +kernel
theorem dX2_rest_10 : decode cX2_rest 10 = .ok (.iaload, 1) := by decide +kernel
theorem dX2_rest_11 : decode cX2_rest 11 = .ok (.i2l, 1) := by decide +kernel
theorem dX2_rest_12 : decode cX2_rest 12 = .ok (.iload_n 3, 1) := by decide +kernel
theorem dX2_rest_13 : decode cX2_rest 13 = .ok (.i2l, 1) := by decide +kernel
theorem dX2_rest_14 : decode cX2_rest 14 = .ok (.lmul, 1) := by decide +kernel
theorem dX2_rest_15 : decode cX2_rest 15 = .ok (.iload 4, 2) := by decide +kernel
theorem dX2_rest_17 : decode cX2_rest 17 = .ok (.i2l, 1) := by decide +kernel
theorem dX2_rest_18 : decode cX2_rest 18 = .ok (.lrem, 1) := by decide +kernel
theorem dX2_rest_19 : decode cX2_rest 19 = .ok (.lreturn, 1) := by decide +kernel
theorem dX2_inJar_0 : decode cX2_inJar 0 = .ok (.aload_n 0, 1) := by decide +kernel
theorem dX2_inJar_1 : decode cX2_inJar 1 = .ok (.iconst 0, 1) := by decide +kernel
theorem dX2_inJar_2 : decode cX2_inJar 2 = .ok (.putfield 121, 3) := by decide +kernel
theorem dX2_inJar_5 : decode cX2_inJar 5 = .ok (.iload_n 1, 1) := by decide +kernel
theorem dX2_inJar_6 : decode cX2_inJar 6 = .ok (.iconst 0, 1) := by decide +kernel
theorem dX2_inJar_7 : decode cX2_inJar 7 = .ok (.aload_n 0, 1) := by decide +kernel
theorem dX2_inJar_8 : decode cX2_inJar 8 = .ok (.getfield 286, 3) := by decide +kernel
theorem dX2_inJar_11 : decode cX2_inJar 11 = .ok (.iconst 1, 1) := by decide +kernel
theorem dX2_inJar_12 : decode cX2_inJar 12 = .ok (.isub, 1) := by decide +kernel
theorem dX2_inJar_13 : decode cX2_inJar 13 = .ok (.invokestatic 128, 3) := by decide +kernel
theorem dX2_inJar_16 : decode cX2_inJar 16 = .ok (.ifCond .eq 31, 3) := by decide +kernel
theorem dX2_inJar_19 : decode cX2_inJar 19 = .ok (.iload_n 2, 1) := by decide +kernel
theorem dX2_inJar_20 : decode cX2_inJar 20 = .ok (.iconst 0, 1) := by decide +kernel
theorem dX2_inJar_21 : decode cX2_inJar 21 = .ok (.aload_n 0, 1) := by decide +kernel
theorem dX2_inJar_22 : decode cX2_inJar 22 = .ok (.getfield 124, 3) := by decide +kernel
theorem dX2_inJar_25 : decode cX2_inJar 25 = .ok (.iconst 1, 1) := by decide +kernel
theorem dX2_inJar_26 : decode cX2_inJar 26 = .ok (.isub, 1) := by decide +kernel
theorem dX2_inJar_27 : decode cX2_inJar 27 = .ok (.invokestatic 128, 3) := by decide +kernel
theorem dX2_inJar_30 : decode cX2_inJar 30 = .ok (.ifCond .eq 17, 3) := by decide +kernel
theorem dX2_inJar_33 : decode cX2_inJar 33 = .ok (.aload_n 0, 1) := by decide +kernel
theorem dX2_inJar_34 : decode cX2_inJar 34 = .ok (.getfield 94, 3) := by decide +kernel
theorem dX2_inJar_37 : decode cX2_inJar 37 = .ok (.bipush 20, 2) := by decide +kernel
theorem dX2_inJar_39 : decode cX2_inJar 39 = .ok (.iload_n 1, 1) := by decide +kernel
theorem dX2_inJar_40 : decode cX2_inJar 40 = .ok (.imul, 1) := by decide +kernel
theorem dX2_inJar_41 : decode cX2_inJar 41 = .ok (.iload_n 2, 1) := by decide +kernel
theorem dX2_inJar_42 : decode cX2_inJar 42 = .ok (.iadd, 1) := by decide +kernel
theorem dX2_inJar_43 : decode cX2_inJar 43 = .ok (.iaload, 1) := by decide +kernel
theorem dX2_inJar_44 : decode cX2_inJar 44 = .ok (.goto 4, 3) := by decide +kernel
theorem dX2_inJar_47 : decode cX2_inJar 47 = .ok (.iconst (-1), 1) := by decide +kernel
theorem dX2_inJar_48 : decode cX2_inJar 48 = .ok (.ireturn, 1) := by decide +kernel
theorem dX2_called_0 : decode cX2_called 0 = .ok (.aload_n 0, 1) := by decide +kernel
theorem dX2_called_1 : decode cX2_called 1 = .ok (.iconst 0, 1) := by decide +kernel
theorem dX2_called_2 : decode cX2_called 2 = .ok (.putfield 121, 3) := by decide +kernel
theorem dX2_called_5 : decode cX2_called 5 = .ok (.iconst 0, 1) := by decide +kernel
theorem dX2_called_6 : decode cX2_called 6 = .ok (.istore_n 2, 1) := by decide +kernel
theorem dX2_called_7 : decode cX2_called 7 = .ok (.iconst 0, 1) := by decide +kernel
theorem dX2_called_8 : decode cX2_called 8 = .ok (.istore_n 3, 1) := by decide +kernel
theorem dX2_called_9 : decode cX2_called 9 = .ok (.iload_n 3, 1) := by decide +kernel
theorem dX2_called_10 : decode cX2_called 10 = .ok (.aload_n 0, 1) := by decide +kernel
theorem dX2_called_11 : decode cX2_called 11 = .ok (.getfield 286, 3) := by decide +kernel
theorem dX2_called_14 : decode cX2_called 14 = .ok (.if_icmp .ge 45, 3) := by decide +kernel
theorem dX2_called_17 : decode cX2_called 17 = .ok (.iload_n 1, 1) := by decide +kernel
theorem dX2_called_18 : decode cX2_called 18 = .ok (.iconst 0, 1) := by decide +kernel
theorem dX2_called_19 : decode cX2_called 19 = .ok (.aload_n 0, 1) := by decide +kernel
theorem dX2_called_20 : decode cX2_called 20 = .ok (.getfield 124, 3) := by decide +kernel
theorem dX2_called_23 : decode cX2_called 23 = .ok (.iconst 1, 1) := by decide +kernel
theorem dX2_called_24 : decode cX2_called 24 = .ok (.isub, 1) := by decide +kernel
theorem dX2_called_25 : decode cX2_called 25 = .ok (.invokestatic 128, 3) := by decide +kernel
theorem dX2_called_28 : decode cX2_called 28 = .ok (.ifCond .eq 31, 3) := by decide +kernel
theorem dX2_called_31 : decode cX2_called 31 = .ok (.iload_n 2, 1) := by decide +kernel
theorem dX2_called_32 : decode cX2_called 32 = .ok (.aload_n 0, 1) := by decide +kernel
theorem dX2_called_33 : decode cX2_called 33 = .ok (.getfield 94, 3) := by decide +kernel
theorem dX2_called_36 : decode cX2_called 36 = .ok (.bipush 20, 2) := by decide +kernel
theorem dX2_called_38 : decode cX2_called 38 = .ok (.iload_n 3, 1) := by decide +kernel
theorem dX2_called_39 : decode cX2_called 39 = .ok (.imul, 1) := by decide +kernel
theorem dX2_called_40 : decode cX2_called 40 = .ok (.iload_n 1, 1) := by decide +kernel
theorem dX2_called_41 : decode cX2_called 41 = .ok (.iadd, 1) := by decide +kernel
theorem dX2_called_42 : decode cX2_called 42 = .ok (.iaload, 1) := by decide +kernel
theorem dX2_called_43 : decode cX2_called 43 = .ok (.ifCond .le 7, 3) := by decide +kernel
theorem dX2_called_46 : decode cX2_called 46 = .ok (.iconst 1, 1) := by decide +kernel
theorem dX2_called_47 : decode cX2_called 47 = .ok (.goto 4, 3) := by decide +kernel
theorem dX2_called_50 : decode cX2_called 50 = .ok (.iconst 0, 1) := by decide +kernel
theorem dX2_called_51 : decode cX2_called 51 = .ok (.iadd, 1) := by decide +kernel
theorem dX2_called_52 : decode cX2_called 52 = .ok (.istore_n 2, 1) := by decide +kernel
theorem dX2_called_53 : decode cX2_called 53 = .ok (.iinc 3 1, 3) := by decide +kernel
theorem dX2_called_56 : decode cX2_called 56 = .ok (.goto (-47), 3) := by decide +kernel
theorem dX2_called_59 : decode cX2_called 59 = .ok (.iload_n 2, 1) := by decide +kernel
theorem dX2_called_60 : decode cX2_called 60 = .ok (.ireturn, 1) := by decide +kernel
theorem dX2_order_0 : decode cX2_order 0 = .ok (.aload_n 0, 1) := by decide +kernel
theorem dX2_order_1 : decode cX2_order 1 = .ok (.iconst 0, 1) := by decide +kernel
theorem dX2_order_2 : decode cX2_order 2 = .ok (.putfield 121, 3) := by decide +kernel
theorem dX2_order_5 : decode cX2_order 5 = .ok (.aload_n 0, 1) := by decide +kernel
theorem dX2_order_6 : decode cX2_order 6 = .ok (.getfield 295, 3) := by decide +kernel
theorem dX2_order_9 : decode cX2_order 9 = .ok (.bipush 6, 2) := by decide +kernel
theorem dX2_order_11 : decode cX2_order 11 = .ok (.if_icmp .eq 47, 3) := by decide +kernel
theorem dX2_order_14 : decode cX2_order 14 = .ok (.iload_n 1, 1) := by decide +kernel
theorem dX2_order_15 : decode cX2_order 15 = .ok (.iconst 1, 1) := by decide +kernel
theorem dX2_order_16 : decode cX2_order 16 = .ok (.ldc 127, 2) := by decide +kernel
theorem dX2_order_18 : decode cX2_order 18 = .ok (.invokestatic 128, 3) := by decide +kernel
theorem dX2_order_21 : decode cX2_order 21 = .ok (.ifCond .eq 37, 3) := by decide +kernel
theorem dX2_order_24 : decode cX2_order 24 = .ok (.iload_n 2, 1) := by decide +kernel
theorem dX2_order_25 : decode cX2_order 25 = .ok (.iconst 0, 1) := by decide +kernel
theorem dX2_order_26 : decode cX2_order 26 = .ok (.sipush 1000, 3) := by decide +kernel
theorem dX2_order_29 : decode cX2_order 29 = .ok (.invokestatic 128, 3) := by decide +kernel
theorem dX2_order_32 : decode cX2_order 32 = .ok (.ifCond .eq 26, 3) := by decide +kernel
theorem dX2_order_35 : decode cX2_order 35 = .ok (.iload_n 3, 1) := by decide +kernel
theorem dX2_order_36 : decode cX2_order 36 = .ok (.iload_n 2, 1) := by decide +kernel
theorem dX2_order_37 : decode cX2_order 37 = .ok (.sipush 1000, 3) := by decide +kernel
theorem dX2_order_40 : decode cX2_order 40 = .ok (.invokestatic 128, 3) := by decide +kernel
theorem dX2_order_43 : decode cX2_order 43 = .ok (.ifCond .eq 15, 3) := by decide +kernel
theorem dX2_order_46 : decode cX2_order 46 = .ok (.iload 4, 2) := by decide +kernel
theorem dX2_order_48 : decode cX2_order 48 = .ok (.iconst 0, 1) := by decide +kernel
theorem dX2_order_49 : decode cX2_order 49 = .ok (.sipush 10000, 3) := by decide +kernel
theorem dX2_order_52 : decode cX2_order 52 = .ok (.invokestatic 128, 3) := by decide +kernel
theorem dX2_order_55 : decode cX2_order 55 = .ok (.ifCond .ne 5, 3) := by decide +kernel
theorem dX2_order_58 : decode cX2_order 58 = .ok (.iconst (-1), 1) := by decide +kernel
theorem dX2_order_59 : decode cX2_order 59 = .ok (.ireturn, 1) := by decide +kernel
theorem dX2_order_60 : decode cX2_order 60 = .ok (.aload_n 0, 1) := by decide +kernel
theorem dX2_order_61 : decode cX2_order 61 = .ok (.getfield 100, 3) := by decide +kernel
theorem dX2_order_64 : decode cX2_order 64 = .ok (.aload_n 0, 1) := by decide +kernel
theorem dX2_order_65 : decode cX2_order 65 = .ok (.getfield 295, 3) := by decide +kernel
theorem dX2_order_68 : decode cX2_order 68 = .ok (.iload_n 1, 1) := by decide +kernel
theorem dX2_order_69 : decode cX2_order 69 = .ok (.iastore, 1) := by decide +kernel
theorem dX2_order_70 : decode cX2_order 70 = .ok (.aload_n 0, 1) := by decide +kernel
theorem dX2_order_71 : decode cX2_order 71 = .ok (.getfield 103, 3) := by decide +kernel
theorem dX2_order_74 : decode cX2_order 74 = .ok (.aload_n 0, 1) := by decide +kernel
theorem dX2_order_75 : decode cX2_order 75 = .ok (.getfield 295, 3) := by decide +kernel
theorem dX2_order_78 : decode cX2_order 78 = .ok (.iload_n 2, 1) := by decide +kernel
theorem dX2_order_79 : decode cX2_order 79 = .ok (.iastore, 1) := by decide +kernel
theorem dX2_order_80 : decode cX2_order 80 = .ok (.aload_n 0, 1) := by decide +kernel
theorem dX2_order_81 : decode cX2_order 81 = .ok (.getfield 106, 3) := by decide +kernel
theorem dX2_order_84 : decode cX2_order 84 = .ok (.aload_n 0, 1) := by decide +kernel
theorem dX2_order_85 : decode cX2_order 85 = .ok (.getfield 295, 3) := by decide +kernel
theorem dX2_order_88 : decode cX2_order 88 = .ok (.iload_n 3, 1) := by decide +kernel
theorem dX2_order_89 : decode cX2_order 89 = .ok (.iastore, 1) := by decide +kernel
theorem dX2_order_90 : decode cX2_order 90 = .ok (.aload_n 0, 1) := by decide +kernel
theorem dX2_order_91 : decode cX2_order 91 = .ok (.getfield 109, 3) := by decide +kernel
theorem dX2_order_94 : decode cX2_order 94 = .ok (.aload_n 0, 1) := by decide +kernel
theorem dX2_order_95 : decode cX2_order 95 = .ok (.getfield 295, 3) := by decide +kernel
theorem dX2_order_98 : decode cX2_order 98 = .ok (.iload 4, 2) := by decide +kernel
theorem dX2_order_100 : decode cX2_order 100 = .ok (.iastore, 1) := by decide +kernel
theorem dX2_order_101 : decode cX2_order 101 = .ok (.aload_n 0, 1) := by decide +kernel
theorem dX2_order_102 : decode cX2_order 102 = .ok (.dup, 1) := by decide +kernel
theorem dX2_order_103 : decode cX2_order 103 = .ok (.getfield 295, 3) := by decide +kernel
theorem dX2_order_106 : decode cX2_order 106 = .ok (.iconst 1, 1) := by decide +kernel
theorem dX2_order_107 : decode cX2_order 107 = .ok (.iadd, 1) := by decide +kernel
theorem dX2_order_108 : decode cX2_order 108 = .ok (.putfield 295, 3) := by decide +kernel
theorem dX2_order_111 : decode cX2_order 111 = .ok (.aload_n 0, 1) := by decide +kernel
theorem dX2_order_112 : decode cX2_order 112 = .ok (.getfield 295, 3) := by decide +kernel
theorem dX2_order_115 : decode cX2_order 115 = .ok (.iconst 1, 1) := by decide +kernel
theorem dX2_order_116 : decode cX2_order 116 = .ok (.isub, 1) := by decide +kernel
theorem dX2_order_117 : decode cX2_order 117 = .ok (.ireturn, 1) := by decide +kernel
theorem dX2_clear_0 : decode cX2_clear 0 = .ok (.aload_n 0, 1) := by decide +kernel
theorem dX2_clear_1 : decode cX2_clear 1 = .ok (.iconst 0, 1) := by decide +kernel
theorem dX2_clear_2 : decode cX2_clear 2 = .ok (.putfield 121, 3) := by decide +kernel
theorem dX2_clear_5 : decode cX2_clear 5 = .ok (.aload_n 0, 1) := by decide +kernel
theorem dX2_clear_6 : decode cX2_clear 6 = .ok (.getfield 295, 3) := by decide +kernel
theorem dX2_clear_9 : decode cX2_clear 9 = .ok (.istore_n 1, 1) := by decide +kernel
theorem dX2_clear_10 : decode cX2_clear 10 = .ok (.aload_n 0, 1) := by decide +kernel
theorem dX2_clear_11 : decode cX2_clear 11 = .ok (.iconst 0, 1) := by decide +kernel
theorem dX2_clear_12 : decode cX2_clear 12 = .ok (.putfield 295, 3) := by decide +kernel
theorem dX2_clear_15 : decode cX2_clear 15 = .ok (.iload_n 1, 1) := by decide +kernel
theorem dX2_clear_16 : decode cX2_clear 16 = .ok (.ireturn, 1) := by decide +kernel
theorem dX2_meets_0 : decode cX2_meets 0 = .ok (.aload_n 0, 1) := by decide +kernel
theorem dX2_meets_1 : decode cX2_meets 1 = .ok (.iconst 0, 1) := by decide +kernel
theorem dX2_meets_2 : decode cX2_meets 2 = .ok (.putfield 121, 3) := by decide +kernel
theorem dX2_meets_5 : decode cX2_meets 5 = .ok (.aload_n 0, 1) := by decide +kernel
theorem dX2_meets_6 : decode cX2_meets 6 = .ok (.iload_n 1, 1) := by decide +kernel
theorem dX2_meets_7 : decode cX2_meets 7 = .ok (.invokevirtual 135, 3) := by decide +kernel
theorem dX2_meets_10 : decode cX2_meets 10 = .ok (.ifCond .eq 17, 3) := by decide +kernel
theorem dX2_meets_13 : decode cX2_meets 13 = .ok (.iload_n 2, 1) := by decide +kernel
theorem dX2_meets_14 : decode cX2_meets 14 = .ok (.iconst 0, 1) := by decide +kernel
theorem dX2_meets_15 : decode cX2_meets 15 = .ok (.aload_n 0, 1) := by decide +kernel
theorem dX2_meets_16 : decode cX2_meets 16 = .ok (.getfield 295, 3) := by decide +kernel
theorem dX2_meets_19 : decode cX2_meets 19 = .ok (.iconst 1, 1) := by decide +kernel
theorem dX2_meets_20 : decode cX2_meets 20 = .ok (.isub, 1) := by decide +kernel
theorem dX2_meets_21 : decode cX2_meets 21 = .ok (.invokestatic 128, 3) := by decide +kernel
theorem dX2_meets_24 : decode cX2_meets 24 = .ok (.ifCond .ne 5, 3) := by decide +kernel
theorem dX2_meets_27 : decode cX2_meets 27 = .ok (.iconst (-1), 1) := by decide +kernel
theorem dX2_meets_28 : decode cX2_meets 28 = .ok (.ireturn, 1) := by decide +kernel
theorem dX2_meets_29 : decode cX2_meets 29 = .ok (.aload_n 0, 1) := by decide +kernel
theorem dX2_meets_30 : decode cX2_meets 30 = .ok (.iload_n 1, 1) := by decide +kernel
theorem dX2_meets_31 : decode cX2_meets 31 = .ok (.iload_n 2, 1) := by decide +kernel
theorem dX2_meets_32 : decode cX2_meets 32 = .ok (.invokevirtual 298, 3) := by decide +kernel
theorem dX2_meets_35 : decode cX2_meets 35 = .ok (.ifCond .eq 7, 3) := by decide +kernel
theorem dX2_meets_38 : decode cX2_meets 38 = .ok (.iconst 1, 1) := by decide +kernel
theorem dX2_meets_39 : decode cX2_meets 39 = .ok (.goto 4, 3) := by decide +kernel
theorem dX2_meets_42 : decode cX2_meets 42 = .ok (.iconst 0, 1) := by decide +kernel
theorem dX2_meets_43 : decode cX2_meets 43 = .ok (.ireturn, 1) := by decide +kernel
theorem dX2_doesMeet_0 : decode cX2_doesMeet 0 = .ok (.aload_n 0, 1) := by decide +kernel
theorem dX2_doesMeet_1 : decode cX2_doesMeet 1 = .ok (.iload_n 1, 1) := by decide +kernel
theorem dX2_doesMeet_2 : decode cX2_doesMeet 2 = .ok (.invokevirtual 289, 3) := by decide +kernel
theorem dX2_doesMeet_5 : decode cX2_doesMeet 5 = .ok (.ifCond .eq 67, 3) := by decide +kernel
theorem dX2_doesMeet_8 : decode cX2_doesMeet 8 = .ok (.aload_n 0, 1) := by decide +kernel
theorem dX2_doesMeet_9 : decode cX2_doesMeet 9 = .ok (.iload_n 1, 1) := by decide +kernel
theorem dX2_doesMeet_10 : decode cX2_doesMeet 10 = .ok (.invokevirtual 148, 3) := by decide +kernel
theorem dX2_doesMeet_13 : decode cX2_doesMeet 13 = .ok (.aload_n 0, 1) := by decide +kernel
theorem dX2_doesMeet_14 : decode cX2_doesMeet 14 = .ok (.getfield 100, 3) := by decide +kernel
theorem dX2_doesMeet_17 : decode cX2_doesMeet 17 = .ok (.iload_n 2, 1) := by decide +kernel
theorem dX2_doesMeet_18 : decode cX2_doesMeet 18 = .ok (.iaload, 1) := by decide +kernel
theorem dX2_doesMeet_19 : decode cX2_doesMeet 19 = .ok (.if_icmp .lt 53, 3) := by decide +kernel
theorem dX2_doesMeet_22 : decode cX2_doesMeet 22 = .ok (.aload_n 0, 1) := by decide +kernel
theorem dX2_doesMeet_23 : decode cX2_doesMeet 23 = .ok (.iload_n 1, 1) := by decide +kernel
theorem dX2_doesMeet_24 : decode cX2_doesMeet 24 = .ok (.aload_n 0, 1) := by decide +kernel
theorem dX2_doesMeet_25 : decode cX2_doesMeet 25 = .ok (.getfield 142, 3) := by decide +kernel
theorem dX2_doesMeet_28 : decode cX2_doesMeet 28 = .ok (.aload_n 0, 1) := by decide +kernel
theorem dX2_doesMeet_29 : decode cX2_doesMeet 29 = .ok (.getfield 159, 3) := by decide +kernel
theorem dX2_doesMeet_32 : decode cX2_doesMeet 32 = .ok (.iconst 0, 1) := by decide +kernel
theorem dX2_doesMeet_33 : decode cX2_doesMeet 33 = .ok (.invokevirtual 166, 3) := by decide +kernel
theorem dX2_doesMeet_36 : decode cX2_doesMeet 36 = .ok (.aload_n 0, 1) := by decide +kernel
theorem dX2_doesMeet_37 : decode cX2_doesMeet 37 = .ok (.getfield 103, 3) := by decide +kernel
theorem dX2_doesMeet_40 : decode cX2_doesMeet 40 = .ok (.iload_n 2, 1) := by decide +kernel
theorem dX2_doesMeet_41 : decode cX2_doesMeet 41 = .ok (.iaload, 1) := by decide +kernel
theorem dX2_doesMeet_42 : decode cX2_doesMeet 42 = .ok (.if_icmp .lt 30, 3) := by decide +kernel
theorem dX2_doesMeet_45 : decode cX2_doesMeet 45 = .ok (.aload_n 0, 1) := by decide +kernel
theorem dX2_doesMeet_46 : decode cX2_doesMeet 46 = .ok (.iload_n 1, 1) := by decide +kernel
theorem dX2_doesMeet_47 : decode cX2_doesMeet 47 = .ok (.aload_n 0, 1) := by decide +kernel
theorem dX2_doesMeet_48 : decode cX2_doesMeet 48 = .ok (.getfield 142, 3) := by decide +kernel
theorem dX2_doesMeet_51 : decode cX2_doesMeet 51 = .ok (.aload_n 0, 1) := by decide +kernel
theorem dX2_doesMeet_52 : decode cX2_doesMeet 52 = .ok (.getfield 159, 3) := by decide +kernel
theorem dX2_doesMeet_55 : decode cX2_doesMeet 55 = .ok (.iconst 1, 1) := by decide +kernel
theorem dX2_doesMeet_56 : decode cX2_doesMeet 56 = .ok (.invokevirtual 166, 3) := by decide +kernel
theorem dX2_doesMeet_59 : decode cX2_doesMeet 59 = .ok (.aload_n 0, 1) := by decide +kernel
theorem dX2_doesMeet_60 : decode cX2_doesMeet 60 = .ok (.getfield 106, 3) := by decide +kernel
theorem dX2_doesMeet_63 : decode cX2_doesMeet 63 = .ok (.iload_n 2, 1) := by decide +kernel
theorem dX2_doesMeet_64 : decode cX2_doesMeet 64 = .ok (.iaload, 1) := by decide +kernel
theorem dX2_doesMeet_65 : decode cX2_doesMeet 65 = .ok (.if_icmp .gt 7, 3) := by decide +kernel
theorem dX2_doesMeet_68 : decode cX2_doesMeet 68 = .ok (.iconst 1, 1) := by decide +kernel
theorem dX2_doesMeet_69 : decode cX2_doesMeet 69 = .ok (.goto 4, 3) := by decide +kernel
theorem dX2_doesMeet_72 : decode cX2_doesMeet 72 = .ok (.iconst 0, 1) := by decide +kernel
theorem dX2_doesMeet_73 : decode cX2_doesMeet 73 = .ok (.ireturn, 1) := by decide +kernel
theorem dX2_plan_0 : decode cX2_plan 0 = .ok (.aload_n 0, 1) := by decide +kernel
theorem dX2_plan_1 : decode cX2_plan 1 = .ok (.iconst 0, 1) := by decide +kernel
theorem dX2_plan_2 : decode cX2_plan 2 = .ok (.putfield 121, 3) := by decide +kernel
theorem dX2_plan_5 : decode cX2_plan 5 = .ok (.aload_n 0, 1) := by decide +kernel
theorem dX2_plan_6 : decode cX2_plan 6 = .ok (.invokevirtual 311, 3) := by decide +kernel
theorem dX2_plan_9 : decode cX2_plan 9 = .ok (.aload_n 0, 1) := by decide +kernel
theorem dX2_plan_10 : decode cX2_plan 10 = .ok (.getfield 301, 3) := by decide +kernel
theorem dX2_plan_13 : decode cX2_plan 13 = .ok (.ireturn, 1) := by decide +kernel
theorem dX2_plans_0 : decode cX2_plans 0 = .ok (.iconst 0, 1) := by decide +kernel
theorem dX2_plans_1 : decode cX2_plans 1 = .ok (.istore_n 1, 1) := by decide +kernel
theorem dX2_plans_2 : decode cX2_plans 2 = .ok (.iload_n 1, 1) := by decide +kernel
theorem dX2_plans_3 : decode cX2_plans 3 = .ok (.aload_n 0, 1) := by decide +kernel
theorem dX2_plans_4 : decode cX2_plans 4 = .ok (.getfield 295, 3) := by decide +kernel
theorem dX2_plans_7 : decode cX2_plans 7 = .ok (.if_icmp .ge 42, 3) := by decide +kernel
theorem dX2_plans_10 : decode cX2_plans 10 = .ok (.iconst 0, 1) := by decide +kernel
theorem dX2_plans_11 : decode cX2_plans 11 = .ok (.istore_n 2, 1) := by decide +kernel
theorem dX2_plans_12 : decode cX2_plans 12 = .ok (.iload_n 2, 1) := by decide +kernel
theorem dX2_plans_13 : decode cX2_plans 13 = .ok (.aload_n 0, 1) := by decide +kernel
theorem dX2_plans_14 : decode cX2_plans 14 = .ok (.getfield 132, 3) := by decide +kernel
theorem dX2_plans_17 : decode cX2_plans 17 = .ok (.if_icmp .ge 26, 3) := by decide +kernel
theorem dX2_plans_20 : decode cX2_plans 20 = .ok (.aload_n 0, 1) := by decide +kernel
theorem dX2_plans_21 : decode cX2_plans 21 = .ok (.getfield 112, 3) := by decide +kernel
theorem dX2_plans_24 : decode cX2_plans 24 = .ok (.bipush 10, 2) := by decide +kernel
theorem dX2_plans_26 : decode cX2_plans 26 = .ok (.iload_n 1, 1) := by decide +kernel
theorem dX2_plans_27 : decode cX2_plans 27 = .ok (.imul, 1) := by decide +kernel
theorem dX2_plans_28 : decode cX2_plans 28 = .ok (.iload_n 2, 1) := by decide +kernel
theorem dX2_plans_29 : decode cX2_plans 29 = .ok (.iadd, 1) := by decide +kernel
theorem dX2_plans_30 : decode cX2_plans 30 = .ok (.aload_n 0, 1) := by decide +kernel
theorem dX2_plans_31 : decode cX2_plans 31 = .ok (.iload_n 2, 1) := by decide +kernel
theorem dX2_plans_32 : decode cX2_plans 32 = .ok (.iload_n 1, 1) := by decide +kernel
theorem dX2_plans_33 : decode cX2_plans 33 = .ok (.invokevirtual 298, 3) := by decide +kernel
theorem dX2_plans_36 : decode cX2_plans 36 = .ok (.bastore, 1) := by decide +kernel
theorem dX2_plans_37 : decode cX2_plans 37 = .ok (.iinc 2 1, 3) := by decide +kernel
theorem dX2_plans_40 : decode cX2_plans 40 = .ok (.goto (-28), 3) := by decide +kernel
theorem dX2_plans_43 : decode cX2_plans 43 = .ok (.iinc 1 1, 3) := by decide +kernel
theorem dX2_plans_46 : decode cX2_plans 46 = .ok (.goto (-44), 3) := by decide +kernel
theorem dX2_plans_49 : decode cX2_plans 49 = .ok (.aload_n 0, 1) := by decide +kernel
theorem dX2_plans_50 : decode cX2_plans 50 = .ok (.iconst (-1), 1) := by decide +kernel
theorem dX2_plans_51 : decode cX2_plans 51 = .ok (.putfield 301, 3) := by decide +kernel
theorem dX2_plans_54 : decode cX2_plans 54 = .ok (.aload_n 0, 1) := by decide +kernel
theorem dX2_plans_55 : decode cX2_plans 55 = .ok (.iconst 0, 1) := by decide +kernel
theorem dX2_plans_56 : decode cX2_plans 56 = .ok (.putfield 304, 3) := by decide +kernel
theorem dX2_plans_59 : decode cX2_plans 59 = .ok (.aload_n 0, 1) := by decide +kernel
theorem dX2_plans_60 : decode cX2_plans 60 = .ok (.iconst 0, 1) := by decide +kernel
theorem dX2_plans_61 : decode cX2_plans 61 = .ok (.iconst 0, 1) := by decide +kernel
theorem dX2_plans_62 : decode cX2_plans 62 = .ok (.iconst 0, 1) := by decide +kernel
theorem dX2_plans_63 : decode cX2_plans 63 = .ok (.iconst 0, 1) := by decide +kernel
theorem dX2_plans_64 : decode cX2_plans 64 = .ok (.invokevirtual 307, 3) := by decide +kernel
theorem dX2_plans_67 : decode cX2_plans 67 = .ok (.return_, 1) := by decide +kernel
theorem dX2_tries_0 : decode cX2_tries 0 = .ok (.iload_n 1, 1) := by decide +kernel
theorem dX2_tries_1 : decode cX2_tries 1 = .ok (.aload_n 0, 1) := by decide +kernel
theorem dX2_tries_2 : decode cX2_tries 2 = .ok (.getfield 295, 3) := by decide +kernel
theorem dX2_tries_5 : decode cX2_tries 5 = .ok (.if_icmp .ne 73, 3) := by decide +kernel
theorem dX2_tries_8 : decode cX2_tries 8 = .ok (.iload_n 3, 1) := by decide +kernel
theorem dX2_tries_9 : decode cX2_tries 9 = .ok (.aload_n 0, 1) := by decide +kernel
theorem dX2_tries_10 : decode cX2_tries 10 = .ok (.getfield 301, 3) := by decide +kernel
theorem dX2_tries_13 : decode cX2_tries 13 = .ok (.if_icmp .lt 20, 3) := by decide +kernel
theorem dX2_tries_16 : decode cX2_tries 16 = .ok (.iload_n 3, 1) := by decide +kernel
theorem dX2_tries_17 : decode cX2_tries 17 = .ok (.aload_n 0, 1) := by decide +kernel
theorem dX2_tries_18 : decode cX2_tries 18 = .ok (.getfield 301, 3) := by decide +kernel
theorem dX2_tries_21 : decode cX2_tries 21 = .ok (.if_icmp .ne 13, 3) := by decide +kernel
theorem dX2_tries_24 : decode cX2_tries 24 = .ok (.iload 4, 2) := by decide +kernel
theorem dX2_tries_26 : decode cX2_tries 26 = .ok (.aload_n 0, 1) := by decide +kernel
theorem dX2_tries_27 : decode cX2_tries 27 = .ok (.getfield 304, 3) := by decide +kernel
theorem dX2_tries_30 : decode cX2_tries 30 = .ok (.if_icmp .lt 4, 3) := by decide +kernel
theorem dX2_tries_33 : decode cX2_tries 33 = .ok (.return_, 1) := by decide +kernel
theorem dX2_tries_34 : decode cX2_tries 34 = .ok (.aload_n 0, 1) := by decide +kernel
theorem dX2_tries_35 : decode cX2_tries 35 = .ok (.iload_n 3, 1) := by decide +kernel
theorem dX2_tries_36 : decode cX2_tries 36 = .ok (.putfield 301, 3) := by decide +kernel
theorem dX2_tries_39 : decode cX2_tries 39 = .ok (.aload_n 0, 1) := by decide +kernel
theorem dX2_tries_40 : decode cX2_tries 40 = .ok (.iload 4, 2) := by decide +kernel
theorem dX2_tries_42 : decode cX2_tries 42 = .ok (.putfield 304, 3) := by decide +kernel
theorem dX2_tries_45 : decode cX2_tries 45 = .ok (.iconst 0, 1) := by decide +kernel
theorem dX2_tries_46 : decode cX2_tries 46 = .ok (.istore 5, 2) := by decide +kernel
theorem dX2_tries_48 : decode cX2_tries 48 = .ok (.iload 5, 2) := by decide +kernel
theorem dX2_tries_50 : decode cX2_tries 50 = .ok (.aload_n 0, 1) := by decide +kernel
theorem dX2_tries_51 : decode cX2_tries 51 = .ok (.getfield 295, 3) := by decide +kernel
theorem dX2_tries_54 : decode cX2_tries 54 = .ok (.if_icmp .ge 23, 3) := by decide +kernel
theorem dX2_tries_57 : decode cX2_tries 57 = .ok (.aload_n 0, 1) := by decide +kernel
theorem dX2_tries_58 : decode cX2_tries 58 = .ok (.getfield 118, 3) := by decide +kernel
theorem dX2_tries_61 : decode cX2_tries 61 = .ok (.iload 5, 2) := by decide +kernel
theorem dX2_tries_63 : decode cX2_tries 63 = .ok (.aload_n 0, 1) := by decide +kernel
theorem dX2_tries_64 : decode cX2_tries 64 = .ok (.getfield 115, 3) := by decide +kernel
theorem dX2_tries_67 : decode cX2_tries 67 = .ok (.iload 5, 2) := by decide +kernel
theorem dX2_tries_69 : decode cX2_tries 69 = .ok (.iaload, 1) := by decide +kernel
theorem dX2_tries_70 : decode cX2_tries 70 = .ok (.iastore, 1) := by decide +kernel
theorem dX2_tries_71 : decode cX2_tries 71 = .ok (.iinc 5 1, 3) := by decide +kernel
theorem dX2_tries_74 : decode cX2_tries 74 = .ok (.goto (-26), 3) := by decide +kernel
theorem dX2_tries_77 : decode cX2_tries 77 = .ok (.return_, 1) := by decide +kernel
theorem dX2_tries_78 : decode cX2_tries 78 = .ok (.iconst 0, 1) := by decide +kernel
theorem dX2_tries_79 : decode cX2_tries 79 = .ok (.istore 5, 2) := by decide +kernel
theorem dX2_tries_81 : decode cX2_tries 81 = .ok (.iload 5, 2) := by decide +kernel
theorem dX2_tries_83 : decode cX2_tries 83 = .ok (.aload_n 0, 1) := by decide +kernel
theorem dX2_tries_84 : decode cX2_tries 84 = .ok (.getfield 132, 3) := by decide +kernel
theorem dX2_tries_87 : decode cX2_tries 87 = .ok (.if_icmp .ge 75, 3) := by decide +kernel
theorem dX2_tries_90 : decode cX2_tries 90 = .ok (.iload_n 2, 1) := by decide +kernel
theorem dX2_tries_91 : decode cX2_tries 91 = .ok (.iload 5, 2) := by decide +kernel
theorem dX2_tries_93 : decode cX2_tries 93 = .ok (.ishr, 1) := by decide +kernel
theorem dX2_tries_94 : decode cX2_tries 94 = .ok (.iconst 1, 1) := by decide +kernel
theorem dX2_tries_95 : decode cX2_tries 95 = .ok (.iand, 1) := by decide +kernel
theorem dX2_tries_96 : decode cX2_tries 96 = .ok (.iconst 1, 1) := by decide +kernel
theorem dX2_tries_97 : decode cX2_tries 97 = .ok (.if_icmp .eq 59, 3) := by decide +kernel
theorem dX2_tries_100 : decode cX2_tries 100 = .ok (.aload_n 0, 1) := by decide +kernel
theorem dX2_tries_101 : decode cX2_tries 101 = .ok (.getfield 112, 3) := by decide +kernel
theorem dX2_tries_104 : decode cX2_tries 104 = .ok (.bipush 10, 2) := by decide +kernel
theorem dX2_tries_106 : decode cX2_tries 106 = .ok (.iload_n 1, 1) := by decide +kernel
theorem dX2_tries_107 : decode cX2_tries 107 = .ok (.imul, 1) := by decide +kernel
theorem dX2_tries_108 : decode cX2_tries 108 = .ok (.iload 5, 2) := by decide +kernel
theorem dX2_tries_110 : decode cX2_tries 110 = .ok (.iadd, 1) := by decide +kernel
theorem dX2_tries_111 : decode cX2_tries 111 = .ok (.baload, 1) := by decide +kernel
theorem dX2_tries_112 : decode cX2_tries 112 = .ok (.ifCond .ne 6, 3) := by decide +kernel
theorem dX2_tries_115 : decode cX2_tries 115 = .ok (.goto 41, 3) := by decide +kernel
theorem dX2_tries_118 : decode cX2_tries 118 = .ok (.aload_n 0, 1) := by decide +kernel
theorem dX2_tries_119 : decode cX2_tries 119 = .ok (.getfield 115, 3) := by decide +kernel
theorem dX2_tries_122 : decode cX2_tries 122 = .ok (.iload_n 1, 1) := by decide +kernel
theorem dX2_tries_123 : decode cX2_tries 123 = .ok (.iload 5, 2) := by decide +kernel
theorem dX2_tries_125 : decode cX2_tries 125 = .ok (.iastore, 1) := by decide +kernel
theorem dX2_tries_126 : decode cX2_tries 126 = .ok (.aload_n 0, 1) := by decide +kernel
theorem dX2_tries_127 : decode cX2_tries 127 = .ok (.iload_n 1, 1) := by decide +kernel
theorem dX2_tries_128 : decode cX2_tries 128 = .ok (.iconst 1, 1) := by decide +kernel
theorem dX2_tries_129 : decode cX2_tries 129 = .ok (.iadd, 1) := by decide +kernel
theorem dX2_tries_130 : decode cX2_tries 130 = .ok (.iload_n 2, 1) := by decide +kernel
theorem dX2_tries_131 : decode cX2_tries 131 = .ok (.iconst 1, 1) := by decide +kernel
theorem dX2_tries_132 : decode cX2_tries 132 = .ok (.iload 5, 2) := by decide +kernel
theorem dX2_tries_134 : decode cX2_tries 134 = .ok (.ishl, 1) := by decide +kernel
theorem dX2_tries_135 : decode cX2_tries 135 = .ok (.ior, 1) := by decide +kernel
theorem dX2_tries_136 : decode cX2_tries 136 = .ok (.iload_n 3, 1) := by decide +kernel
theorem dX2_tries_137 : decode cX2_tries 137 = .ok (.aload_n 0, 1) := by decide +kernel
theorem dX2_tries_138 : decode cX2_tries 138 = .ok (.getfield 109, 3) := by decide +kernel
theorem dX2_tries_141 : decode cX2_tries 141 = .ok (.iload_n 1, 1) := by decide +kernel
theorem dX2_tries_142 : decode cX2_tries 142 = .ok (.iaload, 1) := by decide +kernel
theorem dX2_tries_143 : decode cX2_tries 143 = .ok (.iadd, 1) := by decide +kernel
theorem dX2_tries_144 : decode cX2_tries 144 = .ok (.iload 4, 2) := by decide +kernel
theorem dX2_tries_146 : decode cX2_tries 146 = .ok (.aload_n 0, 1) := by decide +kernel
theorem dX2_tries_147 : decode cX2_tries 147 = .ok (.iload 5, 2) := by decide +kernel
theorem dX2_tries_149 : decode cX2_tries 149 = .ok (.invokevirtual 148, 3) := by decide +kernel
theorem dX2_tries_152 : decode cX2_tries 152 = .ok (.iadd, 1) := by decide +kernel
theorem dX2_tries_153 : decode cX2_tries 153 = .ok (.invokevirtual 307, 3) := by decide +kernel
theorem dX2_tries_156 : decode cX2_tries 156 = .ok (.iinc 5 1, 3) := by decide +kernel
theorem dX2_tries_159 : decode cX2_tries 159 = .ok (.goto (-78), 3) := by decide +kernel
theorem dX2_tries_162 : decode cX2_tries 162 = .ok (.aload_n 0, 1) := by decide +kernel
theorem dX2_tries_163 : decode cX2_tries 163 = .ok (.getfield 115, 3) := by decide +kernel
theorem dX2_tries_166 : decode cX2_tries 166 = .ok (.iload_n 1, 1) := by decide +kernel
theorem dX2_tries_167 : decode cX2_tries 167 = .ok (.iconst (-1), 1) := by decide +kernel
theorem dX2_tries_168 : decode cX2_tries 168 = .ok (.iastore, 1) := by decide +kernel
theorem dX2_tries_169 : decode cX2_tries 169 = .ok (.aload_n 0, 1) := by decide +kernel
theorem dX2_tries_170 : decode cX2_tries 170 = .ok (.iload_n 1, 1) := by decide +kernel
theorem dX2_tries_171 : decode cX2_tries 171 = .ok (.iconst 1, 1) := by decide +kernel
theorem dX2_tries_172 : decode cX2_tries 172 = .ok (.iadd, 1) := by decide +kernel
theorem dX2_tries_173 : decode cX2_tries 173 = .ok (.iload_n 2, 1) := by decide +kernel
theorem dX2_tries_174 : decode cX2_tries 174 = .ok (.iload_n 3, 1) := by decide +kernel
theorem dX2_tries_175 : decode cX2_tries 175 = .ok (.iload 4, 2) := by decide +kernel
theorem dX2_tries_177 : decode cX2_tries 177 = .ok (.invokevirtual 307, 3) := by decide +kernel
theorem dX2_tries_180 : decode cX2_tries 180 = .ok (.return_, 1) := by decide +kernel
theorem dX2_planned_0 : decode cX2_planned 0 = .ok (.aload_n 0, 1) := by decide +kernel
theorem dX2_planned_1 : decode cX2_planned 1 = .ok (.iconst 0, 1) := by decide +kernel
theorem dX2_planned_2 : decode cX2_planned 2 = .ok (.putfield 121, 3) := by decide +kernel
theorem dX2_planned_5 : decode cX2_planned 5 = .ok (.iload_n 1, 1) := by decide +kernel
theorem dX2_planned_6 : decode cX2_planned 6 = .ok (.iconst 0, 1) := by decide +kernel
theorem dX2_planned_7 : decode cX2_planned 7 = .ok (.aload_n 0, 1) := by decide +kernel
theorem dX2_planned_8 : decode cX2_planned 8 = .ok (.getfield 295, 3) := by decide +kernel
theorem dX2_planned_11 : decode cX2_planned 11 = .ok (.iconst 1, 1) := by decide +kernel
theorem dX2_planned_12 : decode cX2_planned 12 = .ok (.isub, 1) := by decide +kernel
theorem dX2_planned_13 : decode cX2_planned 13 = .ok (.invokestatic 128, 3) := by decide +kernel
theorem dX2_planned_16 : decode cX2_planned 16 = .ok (.ifCond .ne 5, 3) := by decide +kernel
theorem dX2_planned_19 : decode cX2_planned 19 = .ok (.iconst (-1), 1) := by decide +kernel
theorem dX2_planned_20 : decode cX2_planned 20 = .ok (.ireturn, 1) := by decide +kernel
theorem dX2_planned_21 : decode cX2_planned 21 = .ok (.aload_n 0, 1) := by decide +kernel
theorem dX2_planned_22 : decode cX2_planned 22 = .ok (.invokevirtual 311, 3) := by decide +kernel
theorem dX2_planned_25 : decode cX2_planned 25 = .ok (.aload_n 0, 1) := by decide +kernel
theorem dX2_planned_26 : decode cX2_planned 26 = .ok (.getfield 118, 3) := by decide +kernel
theorem dX2_planned_29 : decode cX2_planned 29 = .ok (.iload_n 1, 1) := by decide +kernel
theorem dX2_planned_30 : decode cX2_planned 30 = .ok (.iaload, 1) := by decide +kernel
theorem dX2_planned_31 : decode cX2_planned 31 = .ok (.ireturn, 1) := by decide +kernel
theorem dX2_crockOf_0 : decode cX2_crockOf 0 = .ok (.aload_n 0, 1) := by decide +kernel
theorem dX2_crockOf_1 : decode cX2_crockOf 1 = .ok (.iconst 0, 1) := by decide +kernel
theorem dX2_crockOf_2 : decode cX2_crockOf 2 = .ok (.putfield 121, 3) := by decide +kernel
theorem dX2_crockOf_5 : decode cX2_crockOf 5 = .ok (.aload_n 0, 1) := by decide +kernel
theorem dX2_crockOf_6 : decode cX2_crockOf 6 = .ok (.iload_n 1, 1) := by decide +kernel
theorem dX2_crockOf_7 : decode cX2_crockOf 7 = .ok (.invokevirtual 135, 3) := by decide +kernel
theorem dX2_crockOf_10 : decode cX2_crockOf 10 = .ok (.ifCond .ne 5, 3) := by decide +kernel
theorem dX2_crockOf_13 : decode cX2_crockOf 13 = .ok (.iconst (-1), 1) := by decide +kernel
theorem dX2_crockOf_14 : decode cX2_crockOf 14 = .ok (.ireturn, 1) := by decide +kernel
theorem dX2_crockOf_15 : decode cX2_crockOf 15 = .ok (.iload_n 2, 1) := by decide +kernel
theorem dX2_crockOf_16 : decode cX2_crockOf 16 = .ok (.tableswitch 122 0 7 #[48, 67, 74, 81, 88, 95, 101, 115], 48) := by decide +kernel
theorem dX2_crockOf_64 : decode cX2_crockOf 64 = .ok (.aload_n 0, 1) := by decide +kernel
theorem dX2_crockOf_65 : decode cX2_crockOf 65 = .ok (.iload_n 1, 1) := by decide +kernel
theorem dX2_crockOf_66 : decode cX2_crockOf 66 = .ok (.invokevirtual 145, 3) := by decide +kernel
theorem dX2_crockOf_69 : decode cX2_crockOf 69 = .ok (.ifCond .eq 12, 3) := by decide +kernel
theorem dX2_crockOf_72 : decode cX2_crockOf 72 = .ok (.aload_n 0, 1) := by decide +kernel
theorem dX2_crockOf_73 : decode cX2_crockOf 73 = .ok (.getfield 16, 3) := by decide +kernel
theorem dX2_crockOf_76 : decode cX2_crockOf 76 = .ok (.iload_n 1, 1) := by decide +kernel
theorem dX2_crockOf_77 : decode cX2_crockOf 77 = .ok (.iaload, 1) := by decide +kernel
theorem dX2_crockOf_78 : decode cX2_crockOf 78 = .ok (.goto 4, 3) := by decide +kernel
theorem dX2_crockOf_81 : decode cX2_crockOf 81 = .ok (.iconst (-1), 1) := by decide +kernel
theorem dX2_crockOf_82 : decode cX2_crockOf 82 = .ok (.ireturn, 1) := by decide +kernel
theorem dX2_crockOf_83 : decode cX2_crockOf 83 = .ok (.aload_n 0, 1) := by decide +kernel
theorem dX2_crockOf_84 : decode cX2_crockOf 84 = .ok (.getfield 19, 3) := by decide +kernel
theorem dX2_crockOf_87 : decode cX2_crockOf 87 = .ok (.iload_n 1, 1) := by decide +kernel
theorem dX2_crockOf_88 : decode cX2_crockOf 88 = .ok (.iaload, 1) := by decide +kernel
theorem dX2_crockOf_89 : decode cX2_crockOf 89 = .ok (.ireturn, 1) := by decide +kernel
theorem dX2_crockOf_90 : decode cX2_crockOf 90 = .ok (.aload_n 0, 1) := by decide +kernel
theorem dX2_crockOf_91 : decode cX2_crockOf 91 = .ok (.getfield 22, 3) := by decide +kernel
theorem dX2_crockOf_94 : decode cX2_crockOf 94 = .ok (.iload_n 1, 1) := by decide +kernel
theorem dX2_crockOf_95 : decode cX2_crockOf 95 = .ok (.iaload, 1) := by decide +kernel
theorem dX2_crockOf_96 : decode cX2_crockOf 96 = .ok (.ireturn, 1) := by decide +kernel
theorem dX2_crockOf_97 : decode cX2_crockOf 97 = .ok (.aload_n 0, 1) := by decide +kernel
theorem dX2_crockOf_98 : decode cX2_crockOf 98 = .ok (.getfield 25, 3) := by decide +kernel
theorem dX2_crockOf_101 : decode cX2_crockOf 101 = .ok (.iload_n 1, 1) := by decide +kernel
theorem dX2_crockOf_102 : decode cX2_crockOf 102 = .ok (.iaload, 1) := by decide +kernel
theorem dX2_crockOf_103 : decode cX2_crockOf 103 = .ok (.ireturn, 1) := by decide +kernel
theorem dX2_crockOf_104 : decode cX2_crockOf 104 = .ok (.aload_n 0, 1) := by decide +kernel
theorem dX2_crockOf_105 : decode cX2_crockOf 105 = .ok (.getfield 28, 3) := by decide +kernel
theorem dX2_crockOf_108 : decode cX2_crockOf 108 = .ok (.iload_n 1, 1) := by decide +kernel
theorem dX2_crockOf_109 : decode cX2_crockOf 109 = .ok (.iaload, 1) := by decide +kernel
theorem dX2_crockOf_110 : decode cX2_crockOf 110 = .ok (.ireturn, 1) := by decide +kernel
theorem dX2_crockOf_111 : decode cX2_crockOf 111 = .ok (.aload_n 0, 1) := by decide +kernel
theorem dX2_crockOf_112 : decode cX2_crockOf 112 = .ok (.iload_n 1, 1) := by decide +kernel
theorem dX2_crockOf_113 : decode cX2_crockOf 113 = .ok (.invokevirtual 148, 3) := by decide +kernel
theorem dX2_crockOf_116 : decode cX2_crockOf 116 = .ok (.ireturn, 1) := by decide +kernel
theorem dX2_crockOf_117 : decode cX2_crockOf 117 = .ok (.aload_n 0, 1) := by decide +kernel
theorem dX2_crockOf_118 : decode cX2_crockOf 118 = .ok (.iload_n 1, 1) := by decide +kernel
theorem dX2_crockOf_119 : decode cX2_crockOf 119 = .ok (.invokevirtual 289, 3) := by decide +kernel
theorem dX2_crockOf_122 : decode cX2_crockOf 122 = .ok (.ifCond .eq 7, 3) := by decide +kernel
theorem dX2_crockOf_125 : decode cX2_crockOf 125 = .ok (.iconst 1, 1) := by decide +kernel
theorem dX2_crockOf_126 : decode cX2_crockOf 126 = .ok (.goto 4, 3) := by decide +kernel
theorem dX2_crockOf_129 : decode cX2_crockOf 129 = .ok (.iconst 0, 1) := by decide +kernel
theorem dX2_crockOf_130 : decode cX2_crockOf 130 = .ok (.ireturn, 1) := by decide +kernel
theorem dX2_crockOf_131 : decode cX2_crockOf 131 = .ok (.aload_n 0, 1) := by decide +kernel
theorem dX2_crockOf_132 : decode cX2_crockOf 132 = .ok (.getfield 41, 3) := by decide +kernel
theorem dX2_crockOf_135 : decode cX2_crockOf 135 = .ok (.iload_n 1, 1) := by decide +kernel
theorem dX2_crockOf_136 : decode cX2_crockOf 136 = .ok (.iaload, 1) := by decide +kernel
theorem dX2_crockOf_137 : decode cX2_crockOf 137 = .ok (.ireturn, 1) := by decide +kernel
theorem dX2_crockOf_138 : decode cX2_crockOf 138 = .ok (.iconst (-1), 1) := by decide +kernel
theorem dX2_crockOf_139 : decode cX2_crockOf 139 = .ok (.ireturn, 1) := by decide +kernel
theorem dX2_count_0 : decode cX2_count 0 = .ok (.aload_n 0, 1) := by decide +kernel
theorem dX2_count_1 : decode cX2_count 1 = .ok (.iconst 0, 1) := by decide +kernel
theorem dX2_count_2 : decode cX2_count 2 = .ok (.putfield 121, 3) := by decide +kernel
theorem dX2_count_5 : decode cX2_count 5 = .ok (.iconst 0, 1) := by decide +kernel
theorem dX2_count_6 : decode cX2_count 6 = .ok (.istore_n 2, 1) := by decide +kernel
theorem dX2_count_7 : decode cX2_count 7 = .ok (.iload_n 1, 1) := by decide +kernel
theorem dX2_count_8 : decode cX2_count 8 = .ok (.tableswitch 201 0 12 #[68, 73, 78, 83, 88, 93, 98, 103, 108, 135, 161, 191, 196], 68) := by decide +kernel
theorem dX2_count_76 : decode cX2_count 76 = .ok (.aload_n 0, 1) := by decide +kernel
theorem dX2_count_77 : decode cX2_count 77 = .ok (.getfield 124, 3) := by decide +kernel
theorem dX2_count_80 : decode cX2_count 80 = .ok (.ireturn, 1) := by decide +kernel
theorem dX2_count_81 : decode cX2_count 81 = .ok (.aload_n 0, 1) := by decide +kernel
theorem dX2_count_82 : decode cX2_count 82 = .ok (.getfield 132, 3) := by decide +kernel
theorem dX2_count_85 : decode cX2_count 85 = .ok (.ireturn, 1) := by decide +kernel
theorem dX2_count_86 : decode cX2_count 86 = .ok (.aload_n 0, 1) := by decide +kernel
theorem dX2_count_87 : decode cX2_count 87 = .ok (.getfield 142, 3) := by decide +kernel
theorem dX2_count_90 : decode cX2_count 90 = .ok (.ireturn, 1) := by decide +kernel
theorem dX2_count_91 : decode cX2_count 91 = .ok (.aload_n 0, 1) := by decide +kernel
theorem dX2_count_92 : decode cX2_count 92 = .ok (.getfield 159, 3) := by decide +kernel
theorem dX2_count_95 : decode cX2_count 95 = .ok (.ireturn, 1) := by decide +kernel
theorem dX2_count_96 : decode cX2_count 96 = .ok (.aload_n 0, 1) := by decide +kernel
theorem dX2_count_97 : decode cX2_count 97 = .ok (.getfield 245, 3) := by decide +kernel
theorem dX2_count_100 : decode cX2_count 100 = .ok (.ireturn, 1) := by decide +kernel
theorem dX2_count_101 : decode cX2_count 101 = .ok (.aload_n 0, 1) := by decide +kernel
theorem dX2_count_102 : decode cX2_count 102 = .ok (.getfield 286, 3) := by decide +kernel
theorem dX2_count_105 : decode cX2_count 105 = .ok (.ireturn, 1) := by decide +kernel
theorem dX2_count_106 : decode cX2_count 106 = .ok (.aload_n 0, 1) := by decide +kernel
theorem dX2_count_107 : decode cX2_count 107 = .ok (.getfield 295, 3) := by decide +kernel
theorem dX2_count_110 : decode cX2_count 110 = .ok (.ireturn, 1) := by decide +kernel
theorem dX2_count_111 : decode cX2_count 111 = .ok (.aload_n 0, 1) := by decide +kernel
theorem dX2_count_112 : decode cX2_count 112 = .ok (.getfield 170, 3) := by decide +kernel
theorem dX2_count_115 : decode cX2_count 115 = .ok (.ireturn, 1) := by decide +kernel
theorem dX2_count_116 : decode cX2_count 116 = .ok (.iconst 0, 1) := by decide +kernel
theorem dX2_count_117 : decode cX2_count 117 = .ok (.istore_n 3, 1) := by decide +kernel
theorem dX2_count_118 : decode cX2_count 118 = .ok (.iload_n 3, 1) := by decide +kernel
theorem dX2_count_119 : decode cX2_count 119 = .ok (.aload_n 0, 1) := by decide +kernel
theorem dX2_count_120 : decode cX2_count 120 = .ok (.getfield 124, 3) := by decide +kernel
theorem dX2_count_123 : decode cX2_count 123 = .ok (.if_icmp .ge 18, 3) := by decide +kernel
theorem dX2_count_126 : decode cX2_count 126 = .ok (.iload_n 2, 1) := by decide +kernel
theorem dX2_count_127 : decode cX2_count 127 = .ok (.aload_n 0, 1) := by decide +kernel
theorem dX2_count_128 : decode cX2_count 128 = .ok (.getfield 7, 3) := by decide +kernel
theorem dX2_count_131 : decode cX2_count 131 = .ok (.iload_n 3, 1) := by decide +kernel
theorem dX2_count_132 : decode cX2_count 132 = .ok (.iaload, 1) := by decide +kernel
theorem dX2_count_133 : decode cX2_count 133 = .ok (.iadd, 1) := by decide +kernel
theorem dX2_count_134 : decode cX2_count 134 = .ok (.istore_n 2, 1) := by decide +kernel
theorem dX2_count_135 : decode cX2_count 135 = .ok (.iinc 3 1, 3) := by decide +kernel
theorem dX2_count_138 : decode cX2_count 138 = .ok (.goto (-20), 3) := by decide +kernel
theorem dX2_count_141 : decode cX2_count 141 = .ok (.iload_n 2, 1) := by decide +kernel
theorem dX2_count_142 : decode cX2_count 142 = .ok (.ireturn, 1) := by decide +kernel
theorem dX2_count_143 : decode cX2_count 143 = .ok (.iconst 0, 1) := by decide +kernel
theorem dX2_count_144 : decode cX2_count 144 = .ok (.istore_n 3, 1) := by decide +kernel
theorem dX2_count_145 : decode cX2_count 145 = .ok (.iload_n 3, 1) := by decide +kernel
theorem dX2_count_146 : decode cX2_count 146 = .ok (.aload_n 0, 1) := by decide +kernel
theorem dX2_count_147 : decode cX2_count 147 = .ok (.getfield 132, 3) := by decide +kernel
theorem dX2_count_150 : decode cX2_count 150 = .ok (.if_icmp .ge 17, 3) := by decide +kernel
theorem dX2_count_153 : decode cX2_count 153 = .ok (.iload_n 2, 1) := by decide +kernel
theorem dX2_count_154 : decode cX2_count 154 = .ok (.aload_n 0, 1) := by decide +kernel
theorem dX2_count_155 : decode cX2_count 155 = .ok (.iload_n 3, 1) := by decide +kernel
theorem dX2_count_156 : decode cX2_count 156 = .ok (.invokevirtual 148, 3) := by decide +kernel
theorem dX2_count_159 : decode cX2_count 159 = .ok (.iadd, 1) := by decide +kernel
theorem dX2_count_160 : decode cX2_count 160 = .ok (.istore_n 2, 1) := by decide +kernel
theorem dX2_count_161 : decode cX2_count 161 = .ok (.iinc 3 1, 3) := by decide +kernel
theorem dX2_count_164 : decode cX2_count 164 = .ok (.goto (-19), 3) := by decide +kernel
theorem dX2_count_167 : decode cX2_count 167 = .ok (.iload_n 2, 1) := by decide +kernel
theorem dX2_count_168 : decode cX2_count 168 = .ok (.ireturn, 1) := by decide +kernel
theorem dX2_count_169 : decode cX2_count 169 = .ok (.iconst 0, 1) := by decide +kernel
theorem dX2_count_170 : decode cX2_count 170 = .ok (.istore_n 3, 1) := by decide +kernel
theorem dX2_count_171 : decode cX2_count 171 = .ok (.iload_n 3, 1) := by decide +kernel
theorem dX2_count_172 : decode cX2_count 172 = .ok (.bipush 20, 2) := by decide +kernel
theorem dX2_count_174 : decode cX2_count 174 = .ok (.aload_n 0, 1) := by decide +kernel
theorem dX2_count_175 : decode cX2_count 175 = .ok (.getfield 286, 3) := by decide +kernel
theorem dX2_count_178 : decode cX2_count 178 = .ok (.imul, 1) := by decide +kernel
theorem dX2_count_179 : decode cX2_count 179 = .ok (.if_icmp .ge 18, 3) := by decide +kernel
theorem dX2_count_182 : decode cX2_count 182 = .ok (.iload_n 2, 1) := by decide +kernel
theorem dX2_count_183 : decode cX2_count 183 = .ok (.aload_n 0, 1) := by decide +kernel
theorem dX2_count_184 : decode cX2_count 184 = .ok (.getfield 94, 3) := by decide +kernel
theorem dX2_count_187 : decode cX2_count 187 = .ok (.iload_n 3, 1) := by decide +kernel
theorem dX2_count_188 : decode cX2_count 188 = .ok (.iaload, 1) := by decide +kernel
theorem dX2_count_189 : decode cX2_count 189 = .ok (.iadd, 1) := by decide +kernel
theorem dX2_count_190 : decode cX2_count 190 = .ok (.istore_n 2, 1) := by decide +kernel
theorem dX2_count_191 : decode cX2_count 191 = .ok (.iinc 3 1, 3) := by decide +kernel
theorem dX2_count_194 : decode cX2_count 194 = .ok (.goto (-23), 3) := by decide +kernel
theorem dX2_count_197 : decode cX2_count 197 = .ok (.iload_n 2, 1) := by decide +kernel
theorem dX2_count_198 : decode cX2_count 198 = .ok (.ireturn, 1) := by decide +kernel
theorem dX2_count_199 : decode cX2_count 199 = .ok (.aload_n 0, 1) := by decide +kernel
theorem dX2_count_200 : decode cX2_count 200 = .ok (.getfield 152, 3) := by decide +kernel
theorem dX2_count_203 : decode cX2_count 203 = .ok (.ireturn, 1) := by decide +kernel
theorem dX2_count_204 : decode cX2_count 204 = .ok (.aload_n 0, 1) := by decide +kernel
theorem dX2_count_205 : decode cX2_count 205 = .ok (.invokevirtual 266, 3) := by decide +kernel
theorem dX2_count_208 : decode cX2_count 208 = .ok (.ireturn, 1) := by decide +kernel
theorem dX2_count_209 : decode cX2_count 209 = .ok (.iconst (-1), 1) := by decide +kernel
theorem dX2_count_210 : decode cX2_count 210 = .ok (.ireturn, 1) := by decide +kernel
