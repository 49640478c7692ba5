/-! decode rows (printed by wip/gen/links.py) -/
theorem d_MD_init_0 : decode prog_20_method_1_code 0 = .ok (.aload_n 0, 1) := by decide +kernel
theorem d_MD_init_1 : decode prog_20_method_1_code 1 = .ok (.invokespecial 1, 3) := by decide +kernel
theorem d_MD_init_4 : decode prog_20_method_1_code 4 = .ok (.aload_n 0, 1) := by decide +kernel
theorem d_MD_init_5 : decode prog_20_method_1_code 5 = .ok (.iconst 1, 1) := by decide +kernel
theorem d_MD_init_6 : decode prog_20_method_1_code 6 = .ok (.putfield 7, 3) := by decide +kernel
theorem d_MD_init_9 : decode prog_20_method_1_code 9 = .ok (.aload_n 0, 1) := by decide +kernel
theorem d_MD_init_10 : decode prog_20_method_1_code 10 = .ok (.bipush 8, 2) := by decide +kernel
theorem d_MD_init_12 : decode prog_20_method_1_code 12 = .ok (.newarray .int, 2) := by decide +kernel
theorem d_MD_init_14 : decode prog_20_method_1_code 14 = .ok (.putfield 13, 3) := by decide +kernel
theorem d_MD_init_17 : decode prog_20_method_1_code 17 = .ok (.aload_n 0, 1) := by decide +kernel
theorem d_MD_init_18 : decode prog_20_method_1_code 18 = .ok (.sipush 192, 3) := by decide +kernel
theorem d_MD_init_21 : decode prog_20_method_1_code 21 = .ok (.newarray .int, 2) := by decide +kernel
theorem d_MD_init_23 : decode prog_20_method_1_code 23 = .ok (.putfield 17, 3) := by decide +kernel
theorem d_MD_init_26 : decode prog_20_method_1_code 26 = .ok (.aload_n 0, 1) := by decide +kernel
theorem d_MD_init_27 : decode prog_20_method_1_code 27 = .ok (.sipush 192, 3) := by decide +kernel
theorem d_MD_init_30 : decode prog_20_method_1_code 30 = .ok (.newarray .int, 2) := by decide +kernel
theorem d_MD_init_32 : decode prog_20_method_1_code 32 = .ok (.putfield 20, 3) := by decide +kernel
theorem d_MD_init_35 : decode prog_20_method_1_code 35 = .ok (.aload_n 0, 1) := by decide +kernel
theorem d_MD_init_36 : decode prog_20_method_1_code 36 = .ok (.sipush 192, 3) := by decide +kernel
theorem d_MD_init_39 : decode prog_20_method_1_code 39 = .ok (.newarray .int, 2) := by decide +kernel
theorem d_MD_init_41 : decode prog_20_method_1_code 41 = .ok (.putfield 23, 3) := by decide +kernel
theorem d_MD_init_44 : decode prog_20_method_1_code 44 = .ok (.aload_n 0, 1) := by decide +kernel
theorem d_MD_init_45 : decode prog_20_method_1_code 45 = .ok (.sipush 192, 3) := by decide +kernel
theorem d_MD_init_48 : decode prog_20_method_1_code 48 = .ok (.newarray .int, 2) := by decide +kernel
theorem d_MD_init_50 : decode prog_20_method_1_code 50 = .ok (.putfield 26, 3) := by decide +kernel
theorem d_MD_init_53 : decode prog_20_method_1_code 53 = .ok (.aload_n 0, 1) := by decide +kernel
theorem d_MD_init_54 : decode prog_20_method_1_code 54 = .ok (.bipush 17, 2) := by decide +kernel
theorem d_MD_init_56 : decode prog_20_method_1_code 56 = .ok (.newarray .int, 2) := by decide +kernel
theorem d_MD_init_58 : decode prog_20_method_1_code 58 = .ok (.putfield 29, 3) := by decide +kernel
theorem d_MD_init_61 : decode prog_20_method_1_code 61 = .ok (.aload_n 0, 1) := by decide +kernel
theorem d_MD_init_62 : decode prog_20_method_1_code 62 = .ok (.bipush 17, 2) := by decide +kernel
theorem d_MD_init_64 : decode prog_20_method_1_code 64 = .ok (.newarray .int, 2) := by decide +kernel
theorem d_MD_init_66 : decode prog_20_method_1_code 66 = .ok (.putfield 32, 3) := by decide +kernel
theorem d_MD_init_69 : decode prog_20_method_1_code 69 = .ok (.aload_n 0, 1) := by decide +kernel
theorem d_MD_init_70 : decode prog_20_method_1_code 70 = .ok (.bipush 17, 2) := by decide +kernel
theorem d_MD_init_72 : decode prog_20_method_1_code 72 = .ok (.newarray .int, 2) := by decide +kernel
theorem d_MD_init_74 : decode prog_20_method_1_code 74 = .ok (.putfield 35, 3) := by decide +kernel
theorem d_MD_init_77 : decode prog_20_method_1_code 77 = .ok (.aload_n 0, 1) := by decide +kernel
theorem d_MD_init_78 : decode prog_20_method_1_code 78 = .ok (.sipush 1088, 3) := by decide +kernel
theorem d_MD_init_81 : decode prog_20_method_1_code 81 = .ok (.newarray .int, 2) := by decide +kernel
theorem d_MD_init_83 : decode prog_20_method_1_code 83 = .ok (.putfield 38, 3) := by decide +kernel
theorem d_MD_init_86 : decode prog_20_method_1_code 86 = .ok (.aload_n 0, 1) := by decide +kernel
theorem d_MD_init_87 : decode prog_20_method_1_code 87 = .ok (.bipush 16, 2) := by decide +kernel
theorem d_MD_init_89 : decode prog_20_method_1_code 89 = .ok (.newarray .int, 2) := by decide +kernel
theorem d_MD_init_91 : decode prog_20_method_1_code 91 = .ok (.dup, 1) := by decide +kernel
theorem d_MD_init_92 : decode prog_20_method_1_code 92 = .ok (.iconst 0, 1) := by decide +kernel
theorem d_MD_init_93 : decode prog_20_method_1_code 93 = .ok (.iconst (-1), 1) := by decide +kernel
theorem d_MD_init_94 : decode prog_20_method_1_code 94 = .ok (.iastore, 1) := by decide +kernel
theorem d_MD_init_95 : decode prog_20_method_1_code 95 = .ok (.dup, 1) := by decide +kernel
theorem d_MD_init_96 : decode prog_20_method_1_code 96 = .ok (.iconst 1, 1) := by decide +kernel
theorem d_MD_init_97 : decode prog_20_method_1_code 97 = .ok (.iconst (-1), 1) := by decide +kernel
theorem d_MD_init_98 : decode prog_20_method_1_code 98 = .ok (.iastore, 1) := by decide +kernel
theorem d_MD_init_99 : decode prog_20_method_1_code 99 = .ok (.dup, 1) := by decide +kernel
theorem d_MD_init_100 : decode prog_20_method_1_code 100 = .ok (.iconst 2, 1) := by decide +kernel
theorem d_MD_init_101 : decode prog_20_method_1_code 101 = .ok (.iconst (-1), 1) := by decide +kernel
theorem d_MD_init_102 : decode prog_20_method_1_code 102 = .ok (.iastore, 1) := by decide +kernel
theorem d_MD_init_103 : decode prog_20_method_1_code 103 = .ok (.dup, 1) := by decide +kernel
theorem d_MD_init_104 : decode prog_20_method_1_code 104 = .ok (.iconst 3, 1) := by decide +kernel
theorem d_MD_init_105 : decode prog_20_method_1_code 105 = .ok (.iconst (-1), 1) := by decide +kernel
theorem d_MD_init_106 : decode prog_20_method_1_code 106 = .ok (.iastore, 1) := by decide +kernel
theorem d_MD_init_107 : decode prog_20_method_1_code 107 = .ok (.dup, 1) := by decide +kernel
theorem d_MD_init_108 : decode prog_20_method_1_code 108 = .ok (.iconst 4, 1) := by decide +kernel
theorem d_MD_init_109 : decode prog_20_method_1_code 109 = .ok (.iconst (-1), 1) := by decide +kernel
theorem d_MD_init_110 : decode prog_20_method_1_code 110 = .ok (.iastore, 1) := by decide +kernel
theorem d_MD_init_111 : decode prog_20_method_1_code 111 = .ok (.dup, 1) := by decide +kernel
theorem d_MD_init_112 : decode prog_20_method_1_code 112 = .ok (.iconst 5, 1) := by decide +kernel
theorem d_MD_init_113 : decode prog_20_method_1_code 113 = .ok (.iconst (-1), 1) := by decide +kernel
theorem d_MD_init_114 : decode prog_20_method_1_code 114 = .ok (.iastore, 1) := by decide +kernel
theorem d_MD_init_115 : decode prog_20_method_1_code 115 = .ok (.dup, 1) := by decide +kernel
theorem d_MD_init_116 : decode prog_20_method_1_code 116 = .ok (.bipush 6, 2) := by decide +kernel
theorem d_MD_init_118 : decode prog_20_method_1_code 118 = .ok (.iconst (-1), 1) := by decide +kernel
theorem d_MD_init_119 : decode prog_20_method_1_code 119 = .ok (.iastore, 1) := by decide +kernel
theorem d_MD_init_120 : decode prog_20_method_1_code 120 = .ok (.dup, 1) := by decide +kernel
theorem d_MD_init_121 : decode prog_20_method_1_code 121 = .ok (.bipush 7, 2) := by decide +kernel
theorem d_MD_init_123 : decode prog_20_method_1_code 123 = .ok (.iconst (-1), 1) := by decide +kernel
theorem d_MD_init_124 : decode prog_20_method_1_code 124 = .ok (.iastore, 1) := by decide +kernel
theorem d_MD_init_125 : decode prog_20_method_1_code 125 = .ok (.dup, 1) := by decide +kernel
theorem d_MD_init_126 : decode prog_20_method_1_code 126 = .ok (.bipush 8, 2) := by decide +kernel
theorem d_MD_init_128 : decode prog_20_method_1_code 128 = .ok (.iconst (-1), 1) := by decide +kernel
theorem d_MD_init_129 : decode prog_20_method_1_code 129 = .ok (.iastore, 1) := by decide +kernel
theorem d_MD_init_130 : decode prog_20_method_1_code 130 = .ok (.dup, 1) := by decide +kernel
theorem d_MD_init_131 : decode prog_20_method_1_code 131 = .ok (.bipush 9, 2) := by decide +kernel
theorem d_MD_init_133 : decode prog_20_method_1_code 133 = .ok (.iconst (-1), 1) := by decide +kernel
theorem d_MD_init_134 : decode prog_20_method_1_code 134 = .ok (.iastore, 1) := by decide +kernel
theorem d_MD_init_135 : decode prog_20_method_1_code 135 = .ok (.dup, 1) := by decide +kernel
theorem d_MD_init_136 : decode prog_20_method_1_code 136 = .ok (.bipush 10, 2) := by decide +kernel
theorem d_MD_init_138 : decode prog_20_method_1_code 138 = .ok (.iconst (-1), 1) := by decide +kernel
theorem d_MD_init_139 : decode prog_20_method_1_code 139 = .ok (.iastore, 1) := by decide +kernel
theorem d_MD_init_140 : decode prog_20_method_1_code 140 = .ok (.dup, 1) := by decide +kernel
theorem d_MD_init_141 : decode prog_20_method_1_code 141 = .ok (.bipush 11, 2) := by decide +kernel
theorem d_MD_init_143 : decode prog_20_method_1_code 143 = .ok (.iconst (-1), 1) := by decide +kernel
theorem d_MD_init_144 : decode prog_20_method_1_code 144 = .ok (.iastore, 1) := by decide +kernel
theorem d_MD_init_145 : decode prog_20_method_1_code 145 = .ok (.dup, 1) := by decide +kernel
theorem d_MD_init_146 : decode prog_20_method_1_code 146 = .ok (.bipush 12, 2) := by decide +kernel
theorem d_MD_init_148 : decode prog_20_method_1_code 148 = .ok (.iconst (-1), 1) := by decide +kernel
theorem d_MD_init_149 : decode prog_20_method_1_code 149 = .ok (.iastore, 1) := by decide +kernel
theorem d_MD_init_150 : decode prog_20_method_1_code 150 = .ok (.dup, 1) := by decide +kernel
theorem d_MD_init_151 : decode prog_20_method_1_code 151 = .ok (.bipush 13, 2) := by decide +kernel
theorem d_MD_init_153 : decode prog_20_method_1_code 153 = .ok (.iconst (-1), 1) := by decide +kernel
theorem d_MD_init_154 : decode prog_20_method_1_code 154 = .ok (.iastore, 1) := by decide +kernel
theorem d_MD_init_155 : decode prog_20_method_1_code 155 = .ok (.dup, 1) := by decide +kernel
theorem d_MD_init_156 : decode prog_20_method_1_code 156 = .ok (.bipush 14, 2) := by decide +kernel
theorem d_MD_init_158 : decode prog_20_method_1_code 158 = .ok (.iconst (-1), 1) := by decide +kernel
theorem d_MD_init_159 : decode prog_20_method_1_code 159 = .ok (.iastore, 1) := by decide +kernel
theorem d_MD_init_160 : decode prog_20_method_1_code 160 = .ok (.dup, 1) := by decide +kernel
theorem d_MD_init_161 : decode prog_20_method_1_code 161 = .ok (.bipush 15, 2) := by decide +kernel
theorem d_MD_init_163 : decode prog_20_method_1_code 163 = .ok (.iconst (-1), 1) := by decide +kernel
theorem d_MD_init_164 : decode prog_20_method_1_code 164 = .ok (.iastore, 1) := by decide +kernel
theorem d_MD_init_165 : decode prog_20_method_1_code 165 = .ok (.putfield 41, 3) := by decide +kernel
theorem d_MD_init_168 : decode prog_20_method_1_code 168 = .ok (.aload_n 0, 1) := by decide +kernel
theorem d_MD_init_169 : decode prog_20_method_1_code 169 = .ok (.sipush 2688, 3) := by decide +kernel
theorem d_MD_init_172 : decode prog_20_method_1_code 172 = .ok (.newarray .int, 2) := by decide +kernel
theorem d_MD_init_174 : decode prog_20_method_1_code 174 = .ok (.putfield 44, 3) := by decide +kernel
theorem d_MD_init_177 : decode prog_20_method_1_code 177 = .ok (.aload_n 0, 1) := by decide +kernel
theorem d_MD_init_178 : decode prog_20_method_1_code 178 = .ok (.sipush 2048, 3) := by decide +kernel
theorem d_MD_init_181 : decode prog_20_method_1_code 181 = .ok (.newarray .int, 2) := by decide +kernel
theorem d_MD_init_183 : decode prog_20_method_1_code 183 = .ok (.putfield 47, 3) := by decide +kernel
theorem d_MD_init_186 : decode prog_20_method_1_code 186 = .ok (.aload_n 0, 1) := by decide +kernel
theorem d_MD_init_187 : decode prog_20_method_1_code 187 = .ok (.sipush 28672, 3) := by decide +kernel
theorem d_MD_init_190 : decode prog_20_method_1_code 190 = .ok (.newarray .int, 2) := by decide +kernel
theorem d_MD_init_192 : decode prog_20_method_1_code 192 = .ok (.putfield 50, 3) := by decide +kernel
theorem d_MD_init_195 : decode prog_20_method_1_code 195 = .ok (.aload_n 0, 1) := by decide +kernel
theorem d_MD_init_196 : decode prog_20_method_1_code 196 = .ok (.bipush 26, 2) := by decide +kernel
theorem d_MD_init_198 : decode prog_20_method_1_code 198 = .ok (.newarray .int, 2) := by decide +kernel
theorem d_MD_init_200 : decode prog_20_method_1_code 200 = .ok (.putfield 53, 3) := by decide +kernel
theorem d_MD_init_203 : decode prog_20_method_1_code 203 = .ok (.aload_n 0, 1) := by decide +kernel
theorem d_MD_init_204 : decode prog_20_method_1_code 204 = .ok (.bipush 26, 2) := by decide +kernel
theorem d_MD_init_206 : decode prog_20_method_1_code 206 = .ok (.newarray .int, 2) := by decide +kernel
theorem d_MD_init_208 : decode prog_20_method_1_code 208 = .ok (.putfield 56, 3) := by decide +kernel
theorem d_MD_init_211 : decode prog_20_method_1_code 211 = .ok (.aload_n 0, 1) := by decide +kernel
theorem d_MD_init_212 : decode prog_20_method_1_code 212 = .ok (.bipush 26, 2) := by decide +kernel
theorem d_MD_init_214 : decode prog_20_method_1_code 214 = .ok (.newarray .int, 2) := by decide +kernel
theorem d_MD_init_216 : decode prog_20_method_1_code 216 = .ok (.putfield 59, 3) := by decide +kernel
theorem d_MD_init_219 : decode prog_20_method_1_code 219 = .ok (.aload_n 0, 1) := by decide +kernel
theorem d_MD_init_220 : decode prog_20_method_1_code 220 = .ok (.bipush 26, 2) := by decide +kernel
theorem d_MD_init_222 : decode prog_20_method_1_code 222 = .ok (.newarray .int, 2) := by decide +kernel
theorem d_MD_init_224 : decode prog_20_method_1_code 224 = .ok (.putfield 62, 3) := by decide +kernel
theorem d_MD_init_227 : decode prog_20_method_1_code 227 = .ok (.aload_n 0, 1) := by decide +kernel
theorem d_MD_init_228 : decode prog_20_method_1_code 228 = .ok (.sipush 182, 3) := by decide +kernel
theorem d_MD_init_231 : decode prog_20_method_1_code 231 = .ok (.newarray .int, 2) := by decide +kernel
theorem d_MD_init_233 : decode prog_20_method_1_code 233 = .ok (.putfield 65, 3) := by decide +kernel
theorem d_MD_init_236 : decode prog_20_method_1_code 236 = .ok (.aload_n 0, 1) := by decide +kernel
theorem d_MD_init_237 : decode prog_20_method_1_code 237 = .ok (.bipush 26, 2) := by decide +kernel
theorem d_MD_init_239 : decode prog_20_method_1_code 239 = .ok (.newarray .int, 2) := by decide +kernel
theorem d_MD_init_241 : decode prog_20_method_1_code 241 = .ok (.putfield 68, 3) := by decide +kernel
theorem d_MD_init_244 : decode prog_20_method_1_code 244 = .ok (.aload_n 0, 1) := by decide +kernel
theorem d_MD_init_245 : decode prog_20_method_1_code 245 = .ok (.sipush 128, 3) := by decide +kernel
theorem d_MD_init_248 : decode prog_20_method_1_code 248 = .ok (.newarray .int, 2) := by decide +kernel
theorem d_MD_init_250 : decode prog_20_method_1_code 250 = .ok (.putfield 71, 3) := by decide +kernel
theorem d_MD_init_253 : decode prog_20_method_1_code 253 = .ok (.aload_n 0, 1) := by decide +kernel
theorem d_MD_init_254 : decode prog_20_method_1_code 254 = .ok (.sipush 1792, 3) := by decide +kernel
theorem d_MD_init_257 : decode prog_20_method_1_code 257 = .ok (.newarray .int, 2) := by decide +kernel
theorem d_MD_init_259 : decode prog_20_method_1_code 259 = .ok (.putfield 74, 3) := by decide +kernel
theorem d_MD_init_262 : decode prog_20_method_1_code 262 = .ok (.aload_n 0, 1) := by decide +kernel
theorem d_MD_init_263 : decode prog_20_method_1_code 263 = .ok (.sipush 1024, 3) := by decide +kernel
theorem d_MD_init_266 : decode prog_20_method_1_code 266 = .ok (.newarray .int, 2) := by decide +kernel
theorem d_MD_init_268 : decode prog_20_method_1_code 268 = .ok (.putfield 77, 3) := by decide +kernel
theorem d_MD_init_271 : decode prog_20_method_1_code 271 = .ok (.aload_n 0, 1) := by decide +kernel
theorem d_MD_init_272 : decode prog_20_method_1_code 272 = .ok (.sipush 5120, 3) := by decide +kernel
theorem d_MD_init_275 : decode prog_20_method_1_code 275 = .ok (.newarray .int, 2) := by decide +kernel
theorem d_MD_init_277 : decode prog_20_method_1_code 277 = .ok (.putfield 80, 3) := by decide +kernel
theorem d_MD_init_280 : decode prog_20_method_1_code 280 = .ok (.aload_n 0, 1) := by decide +kernel
theorem d_MD_init_281 : decode prog_20_method_1_code 281 = .ok (.bipush 24, 2) := by decide +kernel
theorem d_MD_init_283 : decode prog_20_method_1_code 283 = .ok (.newarray .int, 2) := by decide +kernel
theorem d_MD_init_285 : decode prog_20_method_1_code 285 = .ok (.putfield 83, 3) := by decide +kernel
theorem d_MD_init_288 : decode prog_20_method_1_code 288 = .ok (.aload_n 0, 1) := by decide +kernel
theorem d_MD_init_289 : decode prog_20_method_1_code 289 = .ok (.bipush 9, 2) := by decide +kernel
theorem d_MD_init_291 : decode prog_20_method_1_code 291 = .ok (.newarray .int, 2) := by decide +kernel
theorem d_MD_init_293 : decode prog_20_method_1_code 293 = .ok (.putfield 86, 3) := by decide +kernel
theorem d_MD_init_296 : decode prog_20_method_1_code 296 = .ok (.aload_n 0, 1) := by decide +kernel
theorem d_MD_init_297 : decode prog_20_method_1_code 297 = .ok (.bipush 9, 2) := by decide +kernel
theorem d_MD_init_299 : decode prog_20_method_1_code 299 = .ok (.newarray .int, 2) := by decide +kernel
theorem d_MD_init_301 : decode prog_20_method_1_code 301 = .ok (.putfield 89, 3) := by decide +kernel
theorem d_MD_init_304 : decode prog_20_method_1_code 304 = .ok (.aload_n 0, 1) := by decide +kernel
theorem d_MD_init_305 : decode prog_20_method_1_code 305 = .ok (.bipush 8, 2) := by decide +kernel
theorem d_MD_init_307 : decode prog_20_method_1_code 307 = .ok (.newarray .int, 2) := by decide +kernel
theorem d_MD_init_309 : decode prog_20_method_1_code 309 = .ok (.putfield 92, 3) := by decide +kernel
theorem d_MD_init_312 : decode prog_20_method_1_code 312 = .ok (.aload_n 0, 1) := by decide +kernel
theorem d_MD_init_313 : decode prog_20_method_1_code 313 = .ok (.bipush 7, 2) := by decide +kernel
theorem d_MD_init_315 : decode prog_20_method_1_code 315 = .ok (.newarray .int, 2) := by decide +kernel
theorem d_MD_init_317 : decode prog_20_method_1_code 317 = .ok (.putfield 95, 3) := by decide +kernel
theorem d_MD_init_320 : decode prog_20_method_1_code 320 = .ok (.aload_n 0, 1) := by decide +kernel
theorem d_MD_init_321 : decode prog_20_method_1_code 321 = .ok (.bipush 7, 2) := by decide +kernel
theorem d_MD_init_323 : decode prog_20_method_1_code 323 = .ok (.newarray .int, 2) := by decide +kernel
theorem d_MD_init_325 : decode prog_20_method_1_code 325 = .ok (.putfield 98, 3) := by decide +kernel
theorem d_MD_init_328 : decode prog_20_method_1_code 328 = .ok (.return_, 1) := by decide +kernel
theorem d_MD_thrown_0 : decode prog_20_method_2_code 0 = .ok (.aload_n 0, 1) := by decide +kernel
theorem d_MD_thrown_1 : decode prog_20_method_2_code 1 = .ok (.getfield 101, 3) := by decide +kernel
theorem d_MD_thrown_4 : decode prog_20_method_2_code 4 = .ok (.ireturn, 1) := by decide +kernel
theorem d_MD_depth_0 : decode prog_20_method_3_code 0 = .ok (.iconst 0, 1) := by decide +kernel
theorem d_MD_depth_1 : decode prog_20_method_3_code 1 = .ok (.istore_n 1, 1) := by decide +kernel
theorem d_MD_depth_2 : decode prog_20_method_3_code 2 = .ok (.iload_n 0, 1) := by decide +kernel
theorem d_MD_depth_3 : decode prog_20_method_3_code 3 = .ok (.istore_n 2, 1) := by decide +kernel
theorem d_MD_depth_4 : decode prog_20_method_3_code 4 = .ok (.iload_n 2, 1) := by decide +kernel
theorem d_MD_depth_5 : decode prog_20_method_3_code 5 = .ok (.ifCond .eq 40, 3) := by decide +kernel
theorem d_MD_depth_8 : decode prog_20_method_3_code 8 = .ok (.iload_n 2, 1) := by decide +kernel
theorem d_MD_depth_9 : decode prog_20_method_3_code 9 = .ok (.bipush 127, 2) := by decide +kernel
theorem d_MD_depth_11 : decode prog_20_method_3_code 11 = .ok (.iand, 1) := by decide +kernel
theorem d_MD_depth_12 : decode prog_20_method_3_code 12 = .ok (.istore_n 3, 1) := by decide +kernel
theorem d_MD_depth_13 : decode prog_20_method_3_code 13 = .ok (.iload_n 0, 1) := by decide +kernel
theorem d_MD_depth_14 : decode prog_20_method_3_code 14 = .ok (.ifCond .lt 18, 3) := by decide +kernel
theorem d_MD_depth_17 : decode prog_20_method_3_code 17 = .ok (.iload_n 3, 1) := by decide +kernel
theorem d_MD_depth_18 : decode prog_20_method_3_code 18 = .ok (.ifCond .eq 14, 3) := by decide +kernel
theorem d_MD_depth_21 : decode prog_20_method_3_code 21 = .ok (.iload_n 3, 1) := by decide +kernel
theorem d_MD_depth_22 : decode prog_20_method_3_code 22 = .ok (.bipush 100, 2) := by decide +kernel
theorem d_MD_depth_24 : decode prog_20_method_3_code 24 = .ok (.if_icmp .gt 8, 3) := by decide +kernel
theorem d_MD_depth_27 : decode prog_20_method_3_code 27 = .ok (.iload_n 1, 1) := by decide +kernel
theorem d_MD_depth_28 : decode prog_20_method_3_code 28 = .ok (.iconst 4, 1) := by decide +kernel
theorem d_MD_depth_29 : decode prog_20_method_3_code 29 = .ok (.if_icmp .ne 5, 3) := by decide +kernel
theorem d_MD_depth_32 : decode prog_20_method_3_code 32 = .ok (.iconst (-1), 1) := by decide +kernel
theorem d_MD_depth_33 : decode prog_20_method_3_code 33 = .ok (.ireturn, 1) := by decide +kernel
theorem d_MD_depth_34 : decode prog_20_method_3_code 34 = .ok (.iload_n 2, 1) := by decide +kernel
theorem d_MD_depth_35 : decode prog_20_method_3_code 35 = .ok (.bipush 7, 2) := by decide +kernel
theorem d_MD_depth_37 : decode prog_20_method_3_code 37 = .ok (.ishr, 1) := by decide +kernel
theorem d_MD_depth_38 : decode prog_20_method_3_code 38 = .ok (.istore_n 2, 1) := by decide +kernel
theorem d_MD_depth_39 : decode prog_20_method_3_code 39 = .ok (.iinc 1 1, 3) := by decide +kernel
theorem d_MD_depth_42 : decode prog_20_method_3_code 42 = .ok (.goto (-38), 3) := by decide +kernel
theorem d_MD_depth_45 : decode prog_20_method_3_code 45 = .ok (.iload_n 1, 1) := by decide +kernel
theorem d_MD_depth_46 : decode prog_20_method_3_code 46 = .ok (.ireturn, 1) := by decide +kernel
theorem d_MD_cutTo_0 : decode prog_20_method_4_code 0 = .ok (.iload_n 1, 1) := by decide +kernel
theorem d_MD_cutTo_1 : decode prog_20_method_4_code 1 = .ok (.iconst 4, 1) := by decide +kernel
theorem d_MD_cutTo_2 : decode prog_20_method_4_code 2 = .ok (.if_icmp .lt 7, 3) := by decide +kernel
theorem d_MD_cutTo_5 : decode prog_20_method_4_code 5 = .ok (.iload_n 0, 1) := by decide +kernel
theorem d_MD_cutTo_6 : decode prog_20_method_4_code 6 = .ok (.goto 13, 3) := by decide +kernel
theorem d_MD_cutTo_9 : decode prog_20_method_4_code 9 = .ok (.iload_n 0, 1) := by decide +kernel
theorem d_MD_cutTo_10 : decode prog_20_method_4_code 10 = .ok (.iconst 1, 1) := by decide +kernel
theorem d_MD_cutTo_11 : decode prog_20_method_4_code 11 = .ok (.bipush 7, 2) := by decide +kernel
theorem d_MD_cutTo_13 : decode prog_20_method_4_code 13 = .ok (.iload_n 1, 1) := by decide +kernel
theorem d_MD_cutTo_14 : decode prog_20_method_4_code 14 = .ok (.imul, 1) := by decide +kernel
theorem d_MD_cutTo_15 : decode prog_20_method_4_code 15 = .ok (.ishl, 1) := by decide +kernel
theorem d_MD_cutTo_16 : decode prog_20_method_4_code 16 = .ok (.iconst 1, 1) := by decide +kernel
theorem d_MD_cutTo_17 : decode prog_20_method_4_code 17 = .ok (.isub, 1) := by decide +kernel
theorem d_MD_cutTo_18 : decode prog_20_method_4_code 18 = .ok (.iand, 1) := by decide +kernel
theorem d_MD_cutTo_19 : decode prog_20_method_4_code 19 = .ok (.ireturn, 1) := by decide +kernel
theorem d_MD_lastName_0 : decode prog_20_method_5_code 0 = .ok (.iload_n 0, 1) := by decide +kernel
theorem d_MD_lastName_1 : decode prog_20_method_5_code 1 = .ok (.bipush 7, 2) := by decide +kernel
theorem d_MD_lastName_3 : decode prog_20_method_5_code 3 = .ok (.iload_n 1, 1) := by decide +kernel
theorem d_MD_lastName_4 : decode prog_20_method_5_code 4 = .ok (.iconst 1, 1) := by decide +kernel
theorem d_MD_lastName_5 : decode prog_20_method_5_code 5 = .ok (.isub, 1) := by decide +kernel
theorem d_MD_lastName_6 : decode prog_20_method_5_code 6 = .ok (.imul, 1) := by decide +kernel
theorem d_MD_lastName_7 : decode prog_20_method_5_code 7 = .ok (.ishr, 1) := by decide +kernel
theorem d_MD_lastName_8 : decode prog_20_method_5_code 8 = .ok (.bipush 127, 2) := by decide +kernel
theorem d_MD_lastName_10 : decode prog_20_method_5_code 10 = .ok (.iand, 1) := by decide +kernel
theorem d_MD_lastName_11 : decode prog_20_method_5_code 11 = .ok (.ireturn, 1) := by decide +kernel
theorem d_MD_inside_0 : decode prog_20_method_6_code 0 = .ok (.iload_n 0, 1) := by decide +kernel
theorem d_MD_inside_1 : decode prog_20_method_6_code 1 = .ok (.iload_n 2, 1) := by decide +kernel
theorem d_MD_inside_2 : decode prog_20_method_6_code 2 = .ok (.bipush 7, 2) := by decide +kernel
theorem d_MD_inside_4 : decode prog_20_method_6_code 4 = .ok (.iload_n 1, 1) := by decide +kernel
theorem d_MD_inside_5 : decode prog_20_method_6_code 5 = .ok (.imul, 1) := by decide +kernel
theorem d_MD_inside_6 : decode prog_20_method_6_code 6 = .ok (.ishl, 1) := by decide +kernel
theorem d_MD_inside_7 : decode prog_20_method_6_code 7 = .ok (.ior, 1) := by decide +kernel
theorem d_MD_inside_8 : decode prog_20_method_6_code 8 = .ok (.ireturn, 1) := by decide +kernel
theorem d_MD_isIn_0 : decode prog_20_method_7_code 0 = .ok (.iload_n 0, 1) := by decide +kernel
theorem d_MD_isIn_1 : decode prog_20_method_7_code 1 = .ok (.iload_n 2, 1) := by decide +kernel
theorem d_MD_isIn_2 : decode prog_20_method_7_code 2 = .ok (.invokestatic 104, 3) := by decide +kernel
theorem d_MD_isIn_5 : decode prog_20_method_7_code 5 = .ok (.iload_n 1, 1) := by decide +kernel
theorem d_MD_isIn_6 : decode prog_20_method_7_code 6 = .ok (.if_icmp .ne 7, 3) := by decide +kernel
theorem d_MD_isIn_9 : decode prog_20_method_7_code 9 = .ok (.iconst 1, 1) := by decide +kernel
theorem d_MD_isIn_10 : decode prog_20_method_7_code 10 = .ok (.goto 4, 3) := by decide +kernel
theorem d_MD_isIn_13 : decode prog_20_method_7_code 13 = .ok (.iconst 0, 1) := by decide +kernel
theorem d_MD_isIn_14 : decode prog_20_method_7_code 14 = .ok (.ireturn, 1) := by decide +kernel
theorem d_MD_before_0 : decode prog_20_method_8_code 0 = .ok (.iload_n 0, 1) := by decide +kernel
theorem d_MD_before_1 : decode prog_20_method_8_code 1 = .ok (.istore_n 2, 1) := by decide +kernel
theorem d_MD_before_2 : decode prog_20_method_8_code 2 = .ok (.iload_n 1, 1) := by decide +kernel
theorem d_MD_before_3 : decode prog_20_method_8_code 3 = .ok (.istore_n 3, 1) := by decide +kernel
theorem d_MD_before_4 : decode prog_20_method_8_code 4 = .ok (.iload_n 2, 1) := by decide +kernel
theorem d_MD_before_5 : decode prog_20_method_8_code 5 = .ok (.bipush 127, 2) := by decide +kernel
theorem d_MD_before_7 : decode prog_20_method_8_code 7 = .ok (.iand, 1) := by decide +kernel
theorem d_MD_before_8 : decode prog_20_method_8_code 8 = .ok (.iload_n 3, 1) := by decide +kernel
theorem d_MD_before_9 : decode prog_20_method_8_code 9 = .ok (.bipush 127, 2) := by decide +kernel
theorem d_MD_before_11 : decode prog_20_method_8_code 11 = .ok (.iand, 1) := by decide +kernel
theorem d_MD_before_12 : decode prog_20_method_8_code 12 = .ok (.if_icmp .ne 20, 3) := by decide +kernel
theorem d_MD_before_15 : decode prog_20_method_8_code 15 = .ok (.iload_n 2, 1) := by decide +kernel
theorem d_MD_before_16 : decode prog_20_method_8_code 16 = .ok (.ifCond .eq 16, 3) := by decide +kernel
theorem d_MD_before_19 : decode prog_20_method_8_code 19 = .ok (.iload_n 2, 1) := by decide +kernel
theorem d_MD_before_20 : decode prog_20_method_8_code 20 = .ok (.bipush 7, 2) := by decide +kernel
theorem d_MD_before_22 : decode prog_20_method_8_code 22 = .ok (.ishr, 1) := by decide +kernel
theorem d_MD_before_23 : decode prog_20_method_8_code 23 = .ok (.istore_n 2, 1) := by decide +kernel
theorem d_MD_before_24 : decode prog_20_method_8_code 24 = .ok (.iload_n 3, 1) := by decide +kernel
theorem d_MD_before_25 : decode prog_20_method_8_code 25 = .ok (.bipush 7, 2) := by decide +kernel
theorem d_MD_before_27 : decode prog_20_method_8_code 27 = .ok (.ishr, 1) := by decide +kernel
theorem d_MD_before_28 : decode prog_20_method_8_code 28 = .ok (.istore_n 3, 1) := by decide +kernel
theorem d_MD_before_29 : decode prog_20_method_8_code 29 = .ok (.goto (-25), 3) := by decide +kernel
theorem d_MD_before_32 : decode prog_20_method_8_code 32 = .ok (.iload_n 2, 1) := by decide +kernel
theorem d_MD_before_33 : decode prog_20_method_8_code 33 = .ok (.bipush 127, 2) := by decide +kernel
theorem d_MD_before_35 : decode prog_20_method_8_code 35 = .ok (.iand, 1) := by decide +kernel
theorem d_MD_before_36 : decode prog_20_method_8_code 36 = .ok (.iload_n 3, 1) := by decide +kernel
theorem d_MD_before_37 : decode prog_20_method_8_code 37 = .ok (.bipush 127, 2) := by decide +kernel
theorem d_MD_before_39 : decode prog_20_method_8_code 39 = .ok (.iand, 1) := by decide +kernel
theorem d_MD_before_40 : decode prog_20_method_8_code 40 = .ok (.if_icmp .ge 7, 3) := by decide +kernel
theorem d_MD_before_43 : decode prog_20_method_8_code 43 = .ok (.iconst 1, 1) := by decide +kernel
theorem d_MD_before_44 : decode prog_20_method_8_code 44 = .ok (.goto 4, 3) := by decide +kernel
theorem d_MD_before_47 : decode prog_20_method_8_code 47 = .ok (.iconst 0, 1) := by decide +kernel
theorem d_MD_before_48 : decode prog_20_method_8_code 48 = .ok (.ireturn, 1) := by decide +kernel
theorem d_MD_find_0 : decode prog_20_method_9_code 0 = .ok (.iconst 0, 1) := by decide +kernel
theorem d_MD_find_1 : decode prog_20_method_9_code 1 = .ok (.istore_n 2, 1) := by decide +kernel
theorem d_MD_find_2 : decode prog_20_method_9_code 2 = .ok (.iload_n 2, 1) := by decide +kernel
theorem d_MD_find_3 : decode prog_20_method_9_code 3 = .ok (.aload_n 0, 1) := by decide +kernel
theorem d_MD_find_4 : decode prog_20_method_9_code 4 = .ok (.getfield 108, 3) := by decide +kernel
theorem d_MD_find_7 : decode prog_20_method_9_code 7 = .ok (.if_icmp .ge 21, 3) := by decide +kernel
theorem d_MD_find_10 : decode prog_20_method_9_code 10 = .ok (.aload_n 0, 1) := by decide +kernel
theorem d_MD_find_11 : decode prog_20_method_9_code 11 = .ok (.getfield 53, 3) := by decide +kernel
theorem d_MD_find_14 : decode prog_20_method_9_code 14 = .ok (.iload_n 2, 1) := by decide +kernel
theorem d_MD_find_15 : decode prog_20_method_9_code 15 = .ok (.iaload, 1) := by decide +kernel
theorem d_MD_find_16 : decode prog_20_method_9_code 16 = .ok (.iload_n 1, 1) := by decide +kernel
theorem d_MD_find_17 : decode prog_20_method_9_code 17 = .ok (.if_icmp .ne 5, 3) := by decide +kernel
theorem d_MD_find_20 : decode prog_20_method_9_code 20 = .ok (.iload_n 2, 1) := by decide +kernel
theorem d_MD_find_21 : decode prog_20_method_9_code 21 = .ok (.ireturn, 1) := by decide +kernel
theorem d_MD_find_22 : decode prog_20_method_9_code 22 = .ok (.iinc 2 1, 3) := by decide +kernel
theorem d_MD_find_25 : decode prog_20_method_9_code 25 = .ok (.goto (-23), 3) := by decide +kernel
theorem d_MD_find_28 : decode prog_20_method_9_code 28 = .ok (.iconst (-1), 1) := by decide +kernel
theorem d_MD_find_29 : decode prog_20_method_9_code 29 = .ok (.ireturn, 1) := by decide +kernel
theorem d_MD_isRecord_0 : decode prog_20_method_10_code 0 = .ok (.aload_n 0, 1) := by decide +kernel
theorem d_MD_isRecord_1 : decode prog_20_method_10_code 1 = .ok (.iload_n 1, 1) := by decide +kernel
theorem d_MD_isRecord_2 : decode prog_20_method_10_code 2 = .ok (.invokevirtual 111, 3) := by decide +kernel
theorem d_MD_isRecord_5 : decode prog_20_method_10_code 5 = .ok (.istore_n 2, 1) := by decide +kernel
theorem d_MD_isRecord_6 : decode prog_20_method_10_code 6 = .ok (.iload_n 1, 1) := by decide +kernel
theorem d_MD_isRecord_7 : decode prog_20_method_10_code 7 = .ok (.ifCond .eq 17, 3) := by decide +kernel
theorem d_MD_isRecord_10 : decode prog_20_method_10_code 10 = .ok (.iload_n 2, 1) := by decide +kernel
theorem d_MD_isRecord_11 : decode prog_20_method_10_code 11 = .ok (.ifCond .lt 17, 3) := by decide +kernel
theorem d_MD_isRecord_14 : decode prog_20_method_10_code 14 = .ok (.aload_n 0, 1) := by decide +kernel
theorem d_MD_isRecord_15 : decode prog_20_method_10_code 15 = .ok (.getfield 56, 3) := by decide +kernel
theorem d_MD_isRecord_18 : decode prog_20_method_10_code 18 = .ok (.iload_n 2, 1) := by decide +kernel
theorem d_MD_isRecord_19 : decode prog_20_method_10_code 19 = .ok (.iaload, 1) := by decide +kernel
theorem d_MD_isRecord_20 : decode prog_20_method_10_code 20 = .ok (.iconst 2, 1) := by decide +kernel
theorem d_MD_isRecord_21 : decode prog_20_method_10_code 21 = .ok (.if_icmp .ne 7, 3) := by decide +kernel
theorem d_MD_isRecord_24 : decode prog_20_method_10_code 24 = .ok (.iconst 1, 1) := by decide +kernel
theorem d_MD_isRecord_25 : decode prog_20_method_10_code 25 = .ok (.goto 4, 3) := by decide +kernel
theorem d_MD_isRecord_28 : decode prog_20_method_10_code 28 = .ok (.iconst 0, 1) := by decide +kernel
theorem d_MD_isRecord_29 : decode prog_20_method_10_code 29 = .ok (.ireturn, 1) := by decide +kernel
theorem d_MD_nearest_0 : decode prog_20_method_11_code 0 = .ok (.iload_n 0, 1) := by decide +kernel
theorem d_MD_nearest_1 : decode prog_20_method_11_code 1 = .ok (.ifCond .le 7, 3) := by decide +kernel
theorem d_MD_nearest_4 : decode prog_20_method_11_code 4 = .ok (.iload_n 0, 1) := by decide +kernel
theorem d_MD_nearest_5 : decode prog_20_method_11_code 5 = .ok (.goto 12, 3) := by decide +kernel
theorem d_MD_nearest_8 : decode prog_20_method_11_code 8 = .ok (.iload_n 1, 1) := by decide +kernel
theorem d_MD_nearest_9 : decode prog_20_method_11_code 9 = .ok (.ifCond .ge 7, 3) := by decide +kernel
theorem d_MD_nearest_12 : decode prog_20_method_11_code 12 = .ok (.iload_n 1, 1) := by decide +kernel
theorem d_MD_nearest_13 : decode prog_20_method_11_code 13 = .ok (.goto 4, 3) := by decide +kernel
theorem d_MD_nearest_16 : decode prog_20_method_11_code 16 = .ok (.iconst 0, 1) := by decide +kernel
theorem d_MD_nearest_17 : decode prog_20_method_11_code 17 = .ok (.ireturn, 1) := by decide +kernel
theorem d_MD_come_0 : decode prog_20_method_12_code 0 = .ok (.aload_n 0, 1) := by decide +kernel
theorem d_MD_come_1 : decode prog_20_method_12_code 1 = .ok (.getfield 108, 3) := by decide +kernel
theorem d_MD_come_4 : decode prog_20_method_12_code 4 = .ok (.istore 5, 2) := by decide +kernel
theorem d_MD_come_6 : decode prog_20_method_12_code 6 = .ok (.aload_n 0, 1) := by decide +kernel
theorem d_MD_come_7 : decode prog_20_method_12_code 7 = .ok (.dup, 1) := by decide +kernel
theorem d_MD_come_8 : decode prog_20_method_12_code 8 = .ok (.getfield 108, 3) := by decide +kernel
theorem d_MD_come_11 : decode prog_20_method_12_code 11 = .ok (.iconst 1, 1) := by decide +kernel
theorem d_MD_come_12 : decode prog_20_method_12_code 12 = .ok (.iadd, 1) := by decide +kernel
theorem d_MD_come_13 : decode prog_20_method_12_code 13 = .ok (.putfield 108, 3) := by decide +kernel
theorem d_MD_come_16 : decode prog_20_method_12_code 16 = .ok (.aload_n 0, 1) := by decide +kernel
theorem d_MD_come_17 : decode prog_20_method_12_code 17 = .ok (.getfield 53, 3) := by decide +kernel
theorem d_MD_come_20 : decode prog_20_method_12_code 20 = .ok (.iload 5, 2) := by decide +kernel
theorem d_MD_come_22 : decode prog_20_method_12_code 22 = .ok (.iload_n 1, 1) := by decide +kernel
theorem d_MD_come_23 : decode prog_20_method_12_code 23 = .ok (.iastore, 1) := by decide +kernel
theorem d_MD_come_24 : decode prog_20_method_12_code 24 = .ok (.aload_n 0, 1) := by decide +kernel
theorem d_MD_come_25 : decode prog_20_method_12_code 25 = .ok (.getfield 56, 3) := by decide +kernel
theorem d_MD_come_28 : decode prog_20_method_12_code 28 = .ok (.iload 5, 2) := by decide +kernel
theorem d_MD_come_30 : decode prog_20_method_12_code 30 = .ok (.iload_n 2, 1) := by decide +kernel
theorem d_MD_come_31 : decode prog_20_method_12_code 31 = .ok (.iastore, 1) := by decide +kernel
theorem d_MD_come_32 : decode prog_20_method_12_code 32 = .ok (.aload_n 0, 1) := by decide +kernel
theorem d_MD_come_33 : decode prog_20_method_12_code 33 = .ok (.getfield 59, 3) := by decide +kernel
theorem d_MD_come_36 : decode prog_20_method_12_code 36 = .ok (.iload 5, 2) := by decide +kernel
theorem d_MD_come_38 : decode prog_20_method_12_code 38 = .ok (.iload_n 3, 1) := by decide +kernel
theorem d_MD_come_39 : decode prog_20_method_12_code 39 = .ok (.iastore, 1) := by decide +kernel
theorem d_MD_come_40 : decode prog_20_method_12_code 40 = .ok (.aload_n 0, 1) := by decide +kernel
theorem d_MD_come_41 : decode prog_20_method_12_code 41 = .ok (.getfield 62, 3) := by decide +kernel
theorem d_MD_come_44 : decode prog_20_method_12_code 44 = .ok (.iload 5, 2) := by decide +kernel
theorem d_MD_come_46 : decode prog_20_method_12_code 46 = .ok (.iload 4, 2) := by decide +kernel
theorem d_MD_come_48 : decode prog_20_method_12_code 48 = .ok (.iastore, 1) := by decide +kernel
theorem d_MD_come_49 : decode prog_20_method_12_code 49 = .ok (.iconst 0, 1) := by decide +kernel
theorem d_MD_come_50 : decode prog_20_method_12_code 50 = .ok (.istore 6, 2) := by decide +kernel
theorem d_MD_come_52 : decode prog_20_method_12_code 52 = .ok (.iload 6, 2) := by decide +kernel
theorem d_MD_come_54 : decode prog_20_method_12_code 54 = .ok (.bipush 7, 2) := by decide +kernel
theorem d_MD_come_56 : decode prog_20_method_12_code 56 = .ok (.if_icmp .ge 23, 3) := by decide +kernel
theorem d_MD_come_59 : decode prog_20_method_12_code 59 = .ok (.aload_n 0, 1) := by decide +kernel
theorem d_MD_come_60 : decode prog_20_method_12_code 60 = .ok (.getfield 65, 3) := by decide +kernel
theorem d_MD_come_63 : decode prog_20_method_12_code 63 = .ok (.bipush 7, 2) := by decide +kernel
theorem d_MD_come_65 : decode prog_20_method_12_code 65 = .ok (.iload 5, 2) := by decide +kernel
theorem d_MD_come_67 : decode prog_20_method_12_code 67 = .ok (.imul, 1) := by decide +kernel
theorem d_MD_come_68 : decode prog_20_method_12_code 68 = .ok (.iload 6, 2) := by decide +kernel
theorem d_MD_come_70 : decode prog_20_method_12_code 70 = .ok (.iadd, 1) := by decide +kernel
theorem d_MD_come_71 : decode prog_20_method_12_code 71 = .ok (.iconst 0, 1) := by decide +kernel
theorem d_MD_come_72 : decode prog_20_method_12_code 72 = .ok (.iastore, 1) := by decide +kernel
theorem d_MD_come_73 : decode prog_20_method_12_code 73 = .ok (.iinc 6 1, 3) := by decide +kernel
theorem d_MD_come_76 : decode prog_20_method_12_code 76 = .ok (.goto (-24), 3) := by decide +kernel
theorem d_MD_come_79 : decode prog_20_method_12_code 79 = .ok (.iload_n 2, 1) := by decide +kernel
theorem d_MD_come_80 : decode prog_20_method_12_code 80 = .ok (.ifCond .ne 32, 3) := by decide +kernel
theorem d_MD_come_83 : decode prog_20_method_12_code 83 = .ok (.aload_n 0, 1) := by decide +kernel
theorem d_MD_come_84 : decode prog_20_method_12_code 84 = .ok (.getfield 65, 3) := by decide +kernel
theorem d_MD_come_87 : decode prog_20_method_12_code 87 = .ok (.bipush 7, 2) := by decide +kernel
theorem d_MD_come_89 : decode prog_20_method_12_code 89 = .ok (.iload 5, 2) := by decide +kernel
theorem d_MD_come_91 : decode prog_20_method_12_code 91 = .ok (.imul, 1) := by decide +kernel
theorem d_MD_come_92 : decode prog_20_method_12_code 92 = .ok (.iconst 1, 1) := by decide +kernel
theorem d_MD_come_93 : decode prog_20_method_12_code 93 = .ok (.iastore, 1) := by decide +kernel
theorem d_MD_come_94 : decode prog_20_method_12_code 94 = .ok (.aload_n 0, 1) := by decide +kernel
theorem d_MD_come_95 : decode prog_20_method_12_code 95 = .ok (.getfield 65, 3) := by decide +kernel
theorem d_MD_come_98 : decode prog_20_method_12_code 98 = .ok (.bipush 7, 2) := by decide +kernel
theorem d_MD_come_100 : decode prog_20_method_12_code 100 = .ok (.iload 5, 2) := by decide +kernel
theorem d_MD_come_102 : decode prog_20_method_12_code 102 = .ok (.imul, 1) := by decide +kernel
theorem d_MD_come_103 : decode prog_20_method_12_code 103 = .ok (.iconst 1, 1) := by decide +kernel
theorem d_MD_come_104 : decode prog_20_method_12_code 104 = .ok (.iadd, 1) := by decide +kernel
theorem d_MD_come_105 : decode prog_20_method_12_code 105 = .ok (.iload_n 3, 1) := by decide +kernel
theorem d_MD_come_106 : decode prog_20_method_12_code 106 = .ok (.iload 4, 2) := by decide +kernel
theorem d_MD_come_108 : decode prog_20_method_12_code 108 = .ok (.invokestatic 115, 3) := by decide +kernel
theorem d_MD_come_111 : decode prog_20_method_12_code 111 = .ok (.iastore, 1) := by decide +kernel
theorem d_MD_come_112 : decode prog_20_method_12_code 112 = .ok (.aload_n 0, 1) := by decide +kernel
theorem d_MD_come_113 : decode prog_20_method_12_code 113 = .ok (.getfield 68, 3) := by decide +kernel
theorem d_MD_come_116 : decode prog_20_method_12_code 116 = .ok (.iload 5, 2) := by decide +kernel
theorem d_MD_come_118 : decode prog_20_method_12_code 118 = .ok (.aload_n 0, 1) := by decide +kernel
theorem d_MD_come_119 : decode prog_20_method_12_code 119 = .ok (.getfield 118, 3) := by decide +kernel
theorem d_MD_come_122 : decode prog_20_method_12_code 122 = .ok (.iconst 2, 1) := by decide +kernel
theorem d_MD_come_123 : decode prog_20_method_12_code 123 = .ok (.if_icmp .eq 7, 3) := by decide +kernel
theorem d_MD_come_126 : decode prog_20_method_12_code 126 = .ok (.iconst 0, 1) := by decide +kernel
theorem d_MD_come_127 : decode prog_20_method_12_code 127 = .ok (.goto 30, 3) := by decide +kernel
theorem d_MD_come_130 : decode prog_20_method_12_code 130 = .ok (.iload_n 2, 1) := by decide +kernel
theorem d_MD_come_131 : decode prog_20_method_12_code 131 = .ok (.ifCond .ne 16, 3) := by decide +kernel
theorem d_MD_come_134 : decode prog_20_method_12_code 134 = .ok (.aload_n 0, 1) := by decide +kernel
theorem d_MD_come_135 : decode prog_20_method_12_code 135 = .ok (.iload_n 3, 1) := by decide +kernel
theorem d_MD_come_136 : decode prog_20_method_12_code 136 = .ok (.iload 4, 2) := by decide +kernel
theorem d_MD_come_138 : decode prog_20_method_12_code 138 = .ok (.invokestatic 115, 3) := by decide +kernel
theorem d_MD_come_141 : decode prog_20_method_12_code 141 = .ok (.invokevirtual 121, 3) := by decide +kernel
theorem d_MD_come_144 : decode prog_20_method_12_code 144 = .ok (.goto 13, 3) := by decide +kernel
theorem d_MD_come_147 : decode prog_20_method_12_code 147 = .ok (.aload_n 0, 1) := by decide +kernel
theorem d_MD_come_148 : decode prog_20_method_12_code 148 = .ok (.iconst 2, 1) := by decide +kernel
theorem d_MD_come_149 : decode prog_20_method_12_code 149 = .ok (.iconst 0, 1) := by decide +kernel
theorem d_MD_come_150 : decode prog_20_method_12_code 150 = .ok (.iconst 0, 1) := by decide +kernel
theorem d_MD_come_151 : decode prog_20_method_12_code 151 = .ok (.iconst 0, 1) := by decide +kernel
theorem d_MD_come_152 : decode prog_20_method_12_code 152 = .ok (.iconst 0, 1) := by decide +kernel
theorem d_MD_come_153 : decode prog_20_method_12_code 153 = .ok (.iconst 0, 1) := by decide +kernel
theorem d_MD_come_154 : decode prog_20_method_12_code 154 = .ok (.invokevirtual 124, 3) := by decide +kernel
theorem d_MD_come_157 : decode prog_20_method_12_code 157 = .ok (.iastore, 1) := by decide +kernel
theorem d_MD_come_158 : decode prog_20_method_12_code 158 = .ok (.iload 5, 2) := by decide +kernel
theorem d_MD_come_160 : decode prog_20_method_12_code 160 = .ok (.ireturn, 1) := by decide +kernel
theorem d_MD_go_0 : decode prog_20_method_13_code 0 = .ok (.aload_n 0, 1) := by decide +kernel
theorem d_MD_go_1 : decode prog_20_method_13_code 1 = .ok (.dup, 1) := by decide +kernel
theorem d_MD_go_2 : decode prog_20_method_13_code 2 = .ok (.getfield 108, 3) := by decide +kernel
theorem d_MD_go_5 : decode prog_20_method_13_code 5 = .ok (.iconst 1, 1) := by decide +kernel
theorem d_MD_go_6 : decode prog_20_method_13_code 6 = .ok (.isub, 1) := by decide +kernel
theorem d_MD_go_7 : decode prog_20_method_13_code 7 = .ok (.putfield 108, 3) := by decide +kernel
theorem d_MD_go_10 : decode prog_20_method_13_code 10 = .ok (.aload_n 0, 1) := by decide +kernel
theorem d_MD_go_11 : decode prog_20_method_13_code 11 = .ok (.getfield 53, 3) := by decide +kernel
theorem d_MD_go_14 : decode prog_20_method_13_code 14 = .ok (.iload_n 1, 1) := by decide +kernel
theorem d_MD_go_15 : decode prog_20_method_13_code 15 = .ok (.aload_n 0, 1) := by decide +kernel
theorem d_MD_go_16 : decode prog_20_method_13_code 16 = .ok (.getfield 53, 3) := by decide +kernel
theorem d_MD_go_19 : decode prog_20_method_13_code 19 = .ok (.aload_n 0, 1) := by decide +kernel
theorem d_MD_go_20 : decode prog_20_method_13_code 20 = .ok (.getfield 108, 3) := by decide +kernel
theorem d_MD_go_23 : decode prog_20_method_13_code 23 = .ok (.iaload, 1) := by decide +kernel
theorem d_MD_go_24 : decode prog_20_method_13_code 24 = .ok (.iastore, 1) := by decide +kernel
theorem d_MD_go_25 : decode prog_20_method_13_code 25 = .ok (.aload_n 0, 1) := by decide +kernel
theorem d_MD_go_26 : decode prog_20_method_13_code 26 = .ok (.getfield 56, 3) := by decide +kernel
theorem d_MD_go_29 : decode prog_20_method_13_code 29 = .ok (.iload_n 1, 1) := by decide +kernel
theorem d_MD_go_30 : decode prog_20_method_13_code 30 = .ok (.aload_n 0, 1) := by decide +kernel
theorem d_MD_go_31 : decode prog_20_method_13_code 31 = .ok (.getfield 56, 3) := by decide +kernel
theorem d_MD_go_34 : decode prog_20_method_13_code 34 = .ok (.aload_n 0, 1) := by decide +kernel
theorem d_MD_go_35 : decode prog_20_method_13_code 35 = .ok (.getfield 108, 3) := by decide +kernel
theorem d_MD_go_38 : decode prog_20_method_13_code 38 = .ok (.iaload, 1) := by decide +kernel
theorem d_MD_go_39 : decode prog_20_method_13_code 39 = .ok (.iastore, 1) := by decide +kernel
theorem d_MD_go_40 : decode prog_20_method_13_code 40 = .ok (.aload_n 0, 1) := by decide +kernel
theorem d_MD_go_41 : decode prog_20_method_13_code 41 = .ok (.getfield 59, 3) := by decide +kernel
theorem d_MD_go_44 : decode prog_20_method_13_code 44 = .ok (.iload_n 1, 1) := by decide +kernel
theorem d_MD_go_45 : decode prog_20_method_13_code 45 = .ok (.aload_n 0, 1) := by decide +kernel
theorem d_MD_go_46 : decode prog_20_method_13_code 46 = .ok (.getfield 59, 3) := by decide +kernel
theorem d_MD_go_49 : decode prog_20_method_13_code 49 = .ok (.aload_n 0, 1) := by decide +kernel
theorem d_MD_go_50 : decode prog_20_method_13_code 50 = .ok (.getfield 108, 3) := by decide +kernel
theorem d_MD_go_53 : decode prog_20_method_13_code 53 = .ok (.iaload, 1) := by decide +kernel
theorem d_MD_go_54 : decode prog_20_method_13_code 54 = .ok (.iastore, 1) := by decide +kernel
theorem d_MD_go_55 : decode prog_20_method_13_code 55 = .ok (.aload_n 0, 1) := by decide +kernel
theorem d_MD_go_56 : decode prog_20_method_13_code 56 = .ok (.getfield 62, 3) := by decide +kernel
theorem d_MD_go_59 : decode prog_20_method_13_code 59 = .ok (.iload_n 1, 1) := by decide +kernel
theorem d_MD_go_60 : decode prog_20_method_13_code 60 = .ok (.aload_n 0, 1) := by decide +kernel
theorem d_MD_go_61 : decode prog_20_method_13_code 61 = .ok (.getfield 62, 3) := by decide +kernel
theorem d_MD_go_64 : decode prog_20_method_13_code 64 = .ok (.aload_n 0, 1) := by decide +kernel
theorem d_MD_go_65 : decode prog_20_method_13_code 65 = .ok (.getfield 108, 3) := by decide +kernel
theorem d_MD_go_68 : decode prog_20_method_13_code 68 = .ok (.iaload, 1) := by decide +kernel
theorem d_MD_go_69 : decode prog_20_method_13_code 69 = .ok (.iastore, 1) := by decide +kernel
theorem d_MD_go_70 : decode prog_20_method_13_code 70 = .ok (.aload_n 0, 1) := by decide +kernel
theorem d_MD_go_71 : decode prog_20_method_13_code 71 = .ok (.getfield 68, 3) := by decide +kernel
theorem d_MD_go_74 : decode prog_20_method_13_code 74 = .ok (.iload_n 1, 1) := by decide +kernel
theorem d_MD_go_75 : decode prog_20_method_13_code 75 = .ok (.aload_n 0, 1) := by decide +kernel
theorem d_MD_go_76 : decode prog_20_method_13_code 76 = .ok (.getfield 68, 3) := by decide +kernel
theorem d_MD_go_79 : decode prog_20_method_13_code 79 = .ok (.aload_n 0, 1) := by decide +kernel
theorem d_MD_go_80 : decode prog_20_method_13_code 80 = .ok (.getfield 108, 3) := by decide +kernel
theorem d_MD_go_83 : decode prog_20_method_13_code 83 = .ok (.iaload, 1) := by decide +kernel
theorem d_MD_go_84 : decode prog_20_method_13_code 84 = .ok (.iastore, 1) := by decide +kernel
theorem d_MD_go_85 : decode prog_20_method_13_code 85 = .ok (.aload_n 0, 1) := by decide +kernel
theorem d_MD_go_86 : decode prog_20_method_13_code 86 = .ok (.getfield 65, 3) := by decide +kernel
theorem d_MD_go_89 : decode prog_20_method_13_code 89 = .ok (.bipush 7, 2) := by decide +kernel
theorem d_MD_go_91 : decode prog_20_method_13_code 91 = .ok (.aload_n 0, 1) := by decide +kernel
theorem d_MD_go_92 : decode prog_20_method_13_code 92 = .ok (.getfield 108, 3) := by decide +kernel
theorem d_MD_go_95 : decode prog_20_method_13_code 95 = .ok (.imul, 1) := by decide +kernel
theorem d_MD_go_96 : decode prog_20_method_13_code 96 = .ok (.aload_n 0, 1) := by decide +kernel
theorem d_MD_go_97 : decode prog_20_method_13_code 97 = .ok (.getfield 65, 3) := by decide +kernel
theorem d_MD_go_100 : decode prog_20_method_13_code 100 = .ok (.bipush 7, 2) := by decide +kernel
theorem d_MD_go_102 : decode prog_20_method_13_code 102 = .ok (.iload_n 1, 1) := by decide +kernel
theorem d_MD_go_103 : decode prog_20_method_13_code 103 = .ok (.imul, 1) := by decide +kernel
theorem d_MD_go_104 : decode prog_20_method_13_code 104 = .ok (.invokestatic 128, 3) := by decide +kernel
theorem d_MD_go_107 : decode prog_20_method_13_code 107 = .ok (.return_, 1) := by decide +kernel
theorem d_MD_copyRow_0 : decode prog_20_method_14_code 0 = .ok (.iconst 0, 1) := by decide +kernel
theorem d_MD_copyRow_1 : decode prog_20_method_14_code 1 = .ok (.istore 4, 2) := by decide +kernel
theorem d_MD_copyRow_3 : decode prog_20_method_14_code 3 = .ok (.iload 4, 2) := by decide +kernel
theorem d_MD_copyRow_5 : decode prog_20_method_14_code 5 = .ok (.bipush 7, 2) := by decide +kernel
theorem d_MD_copyRow_7 : decode prog_20_method_14_code 7 = .ok (.if_icmp .ge 21, 3) := by decide +kernel
theorem d_MD_copyRow_10 : decode prog_20_method_14_code 10 = .ok (.aload_n 2, 1) := by decide +kernel
theorem d_MD_copyRow_11 : decode prog_20_method_14_code 11 = .ok (.iload_n 3, 1) := by decide +kernel
theorem d_MD_copyRow_12 : decode prog_20_method_14_code 12 = .ok (.iload 4, 2) := by decide +kernel
theorem d_MD_copyRow_14 : decode prog_20_method_14_code 14 = .ok (.iadd, 1) := by decide +kernel
theorem d_MD_copyRow_15 : decode prog_20_method_14_code 15 = .ok (.aload_n 0, 1) := by decide +kernel
theorem d_MD_copyRow_16 : decode prog_20_method_14_code 16 = .ok (.iload_n 1, 1) := by decide +kernel
theorem d_MD_copyRow_17 : decode prog_20_method_14_code 17 = .ok (.iload 4, 2) := by decide +kernel
theorem d_MD_copyRow_19 : decode prog_20_method_14_code 19 = .ok (.iadd, 1) := by decide +kernel
theorem d_MD_copyRow_20 : decode prog_20_method_14_code 20 = .ok (.iaload, 1) := by decide +kernel
theorem d_MD_copyRow_21 : decode prog_20_method_14_code 21 = .ok (.iastore, 1) := by decide +kernel
theorem d_MD_copyRow_22 : decode prog_20_method_14_code 22 = .ok (.iinc 4 1, 3) := by decide +kernel
theorem d_MD_copyRow_25 : decode prog_20_method_14_code 25 = .ok (.goto (-22), 3) := by decide +kernel
theorem d_MD_copyRow_28 : decode prog_20_method_14_code 28 = .ok (.return_, 1) := by decide +kernel
theorem d_MD_sameRow_0 : decode prog_20_method_15_code 0 = .ok (.aload_n 0, 1) := by decide +kernel
theorem d_MD_sameRow_1 : decode prog_20_method_15_code 1 = .ok (.iload_n 1, 1) := by decide +kernel
theorem d_MD_sameRow_2 : decode prog_20_method_15_code 2 = .ok (.iaload, 1) := by decide +kernel
theorem d_MD_sameRow_3 : decode prog_20_method_15_code 3 = .ok (.aload_n 2, 1) := by decide +kernel
theorem d_MD_sameRow_4 : decode prog_20_method_15_code 4 = .ok (.iload_n 3, 1) := by decide +kernel
theorem d_MD_sameRow_5 : decode prog_20_method_15_code 5 = .ok (.iaload, 1) := by decide +kernel
theorem d_MD_sameRow_6 : decode prog_20_method_15_code 6 = .ok (.if_icmp .ne 7, 3) := by decide +kernel
theorem d_MD_sameRow_9 : decode prog_20_method_15_code 9 = .ok (.iconst 1, 1) := by decide +kernel
theorem d_MD_sameRow_10 : decode prog_20_method_15_code 10 = .ok (.goto 4, 3) := by decide +kernel
theorem d_MD_sameRow_13 : decode prog_20_method_15_code 13 = .ok (.iconst 0, 1) := by decide +kernel
theorem d_MD_sameRow_14 : decode prog_20_method_15_code 14 = .ok (.istore 4, 2) := by decide +kernel
theorem d_MD_sameRow_16 : decode prog_20_method_15_code 16 = .ok (.iconst 1, 1) := by decide +kernel
theorem d_MD_sameRow_17 : decode prog_20_method_15_code 17 = .ok (.istore 5, 2) := by decide +kernel
theorem d_MD_sameRow_19 : decode prog_20_method_15_code 19 = .ok (.iload 4, 2) := by decide +kernel
theorem d_MD_sameRow_21 : decode prog_20_method_15_code 21 = .ok (.ifCond .eq 39, 3) := by decide +kernel
theorem d_MD_sameRow_24 : decode prog_20_method_15_code 24 = .ok (.iload 5, 2) := by decide +kernel
theorem d_MD_sameRow_26 : decode prog_20_method_15_code 26 = .ok (.aload_n 0, 1) := by decide +kernel
theorem d_MD_sameRow_27 : decode prog_20_method_15_code 27 = .ok (.iload_n 1, 1) := by decide +kernel
theorem d_MD_sameRow_28 : decode prog_20_method_15_code 28 = .ok (.iaload, 1) := by decide +kernel
theorem d_MD_sameRow_29 : decode prog_20_method_15_code 29 = .ok (.if_icmp .gt 31, 3) := by decide +kernel
theorem d_MD_sameRow_32 : decode prog_20_method_15_code 32 = .ok (.aload_n 0, 1) := by decide +kernel
theorem d_MD_sameRow_33 : decode prog_20_method_15_code 33 = .ok (.iload_n 1, 1) := by decide +kernel
theorem d_MD_sameRow_34 : decode prog_20_method_15_code 34 = .ok (.iload 5, 2) := by decide +kernel
theorem d_MD_sameRow_36 : decode prog_20_method_15_code 36 = .ok (.iadd, 1) := by decide +kernel
theorem d_MD_sameRow_37 : decode prog_20_method_15_code 37 = .ok (.iaload, 1) := by decide +kernel
theorem d_MD_sameRow_38 : decode prog_20_method_15_code 38 = .ok (.aload_n 2, 1) := by decide +kernel
theorem d_MD_sameRow_39 : decode prog_20_method_15_code 39 = .ok (.iload_n 3, 1) := by decide +kernel
theorem d_MD_sameRow_40 : decode prog_20_method_15_code 40 = .ok (.iload 5, 2) := by decide +kernel
theorem d_MD_sameRow_42 : decode prog_20_method_15_code 42 = .ok (.iadd, 1) := by decide +kernel
theorem d_MD_sameRow_43 : decode prog_20_method_15_code 43 = .ok (.iaload, 1) := by decide +kernel
theorem d_MD_sameRow_44 : decode prog_20_method_15_code 44 = .ok (.if_icmp .ne 7, 3) := by decide +kernel
theorem d_MD_sameRow_47 : decode prog_20_method_15_code 47 = .ok (.iconst 1, 1) := by decide +kernel
theorem d_MD_sameRow_48 : decode prog_20_method_15_code 48 = .ok (.goto 4, 3) := by decide +kernel
theorem d_MD_sameRow_51 : decode prog_20_method_15_code 51 = .ok (.iconst 0, 1) := by decide +kernel
theorem d_MD_sameRow_52 : decode prog_20_method_15_code 52 = .ok (.istore 4, 2) := by decide +kernel
theorem d_MD_sameRow_54 : decode prog_20_method_15_code 54 = .ok (.iinc 5 1, 3) := by decide +kernel
theorem d_MD_sameRow_57 : decode prog_20_method_15_code 57 = .ok (.goto (-38), 3) := by decide +kernel
theorem d_MD_sameRow_60 : decode prog_20_method_15_code 60 = .ok (.iload 4, 2) := by decide +kernel
theorem d_MD_sameRow_62 : decode prog_20_method_15_code 62 = .ok (.ireturn, 1) := by decide +kernel
theorem d_MD_move_0 : decode prog_20_method_16_code 0 = .ok (.iload_n 1, 1) := by decide +kernel
theorem d_MD_move_1 : decode prog_20_method_16_code 1 = .ok (.invokestatic 132, 3) := by decide +kernel
theorem d_MD_move_4 : decode prog_20_method_16_code 4 = .ok (.istore_n 3, 1) := by decide +kernel
theorem d_MD_move_5 : decode prog_20_method_16_code 5 = .ok (.iload_n 2, 1) := by decide +kernel
theorem d_MD_move_6 : decode prog_20_method_16_code 6 = .ok (.invokestatic 132, 3) := by decide +kernel
theorem d_MD_move_9 : decode prog_20_method_16_code 9 = .ok (.istore 4, 2) := by decide +kernel
theorem d_MD_move_11 : decode prog_20_method_16_code 11 = .ok (.iconst 0, 1) := by decide +kernel
theorem d_MD_move_12 : decode prog_20_method_16_code 12 = .ok (.istore 5, 2) := by decide +kernel
theorem d_MD_move_14 : decode prog_20_method_16_code 14 = .ok (.iload 5, 2) := by decide +kernel
theorem d_MD_move_16 : decode prog_20_method_16_code 16 = .ok (.aload_n 0, 1) := by decide +kernel
theorem d_MD_move_17 : decode prog_20_method_16_code 17 = .ok (.getfield 108, 3) := by decide +kernel
theorem d_MD_move_20 : decode prog_20_method_16_code 20 = .ok (.if_icmp .ge 74, 3) := by decide +kernel
theorem d_MD_move_23 : decode prog_20_method_16_code 23 = .ok (.aload_n 0, 1) := by decide +kernel
theorem d_MD_move_24 : decode prog_20_method_16_code 24 = .ok (.getfield 53, 3) := by decide +kernel
theorem d_MD_move_27 : decode prog_20_method_16_code 27 = .ok (.iload 5, 2) := by decide +kernel
theorem d_MD_move_29 : decode prog_20_method_16_code 29 = .ok (.iaload, 1) := by decide +kernel
theorem d_MD_move_30 : decode prog_20_method_16_code 30 = .ok (.iload_n 1, 1) := by decide +kernel
theorem d_MD_move_31 : decode prog_20_method_16_code 31 = .ok (.iload_n 3, 1) := by decide +kernel
theorem d_MD_move_32 : decode prog_20_method_16_code 32 = .ok (.invokestatic 135, 3) := by decide +kernel
theorem d_MD_move_35 : decode prog_20_method_16_code 35 = .ok (.ifCond .eq 53, 3) := by decide +kernel
theorem d_MD_move_38 : decode prog_20_method_16_code 38 = .ok (.iload_n 3, 1) := by decide +kernel
theorem d_MD_move_39 : decode prog_20_method_16_code 39 = .ok (.iconst 4, 1) := by decide +kernel
theorem d_MD_move_40 : decode prog_20_method_16_code 40 = .ok (.if_icmp .ne 7, 3) := by decide +kernel
theorem d_MD_move_43 : decode prog_20_method_16_code 43 = .ok (.iconst 0, 1) := by decide +kernel
theorem d_MD_move_44 : decode prog_20_method_16_code 44 = .ok (.goto 15, 3) := by decide +kernel
theorem d_MD_move_47 : decode prog_20_method_16_code 47 = .ok (.aload_n 0, 1) := by decide +kernel
theorem d_MD_move_48 : decode prog_20_method_16_code 48 = .ok (.getfield 53, 3) := by decide +kernel
theorem d_MD_move_51 : decode prog_20_method_16_code 51 = .ok (.iload 5, 2) := by decide +kernel
theorem d_MD_move_53 : decode prog_20_method_16_code 53 = .ok (.iaload, 1) := by decide +kernel
theorem d_MD_move_54 : decode prog_20_method_16_code 54 = .ok (.bipush 7, 2) := by decide +kernel
theorem d_MD_move_56 : decode prog_20_method_16_code 56 = .ok (.iload_n 3, 1) := by decide +kernel
theorem d_MD_move_57 : decode prog_20_method_16_code 57 = .ok (.imul, 1) := by decide +kernel
theorem d_MD_move_58 : decode prog_20_method_16_code 58 = .ok (.ishr, 1) := by decide +kernel
theorem d_MD_move_59 : decode prog_20_method_16_code 59 = .ok (.istore 6, 2) := by decide +kernel
theorem d_MD_move_61 : decode prog_20_method_16_code 61 = .ok (.aload_n 0, 1) := by decide +kernel
theorem d_MD_move_62 : decode prog_20_method_16_code 62 = .ok (.getfield 53, 3) := by decide +kernel
theorem d_MD_move_65 : decode prog_20_method_16_code 65 = .ok (.iload 5, 2) := by decide +kernel
theorem d_MD_move_67 : decode prog_20_method_16_code 67 = .ok (.iload 4, 2) := by decide +kernel
theorem d_MD_move_69 : decode prog_20_method_16_code 69 = .ok (.iconst 4, 1) := by decide +kernel
theorem d_MD_move_70 : decode prog_20_method_16_code 70 = .ok (.if_icmp .ne 7, 3) := by decide +kernel
theorem d_MD_move_73 : decode prog_20_method_16_code 73 = .ok (.iload_n 2, 1) := by decide +kernel
theorem d_MD_move_74 : decode prog_20_method_16_code 74 = .ok (.goto 13, 3) := by decide +kernel
theorem d_MD_move_77 : decode prog_20_method_16_code 77 = .ok (.iload_n 2, 1) := by decide +kernel
theorem d_MD_move_78 : decode prog_20_method_16_code 78 = .ok (.iload 6, 2) := by decide +kernel
theorem d_MD_move_80 : decode prog_20_method_16_code 80 = .ok (.bipush 7, 2) := by decide +kernel
theorem d_MD_move_82 : decode prog_20_method_16_code 82 = .ok (.iload 4, 2) := by decide +kernel
theorem d_MD_move_84 : decode prog_20_method_16_code 84 = .ok (.imul, 1) := by decide +kernel
theorem d_MD_move_85 : decode prog_20_method_16_code 85 = .ok (.ishl, 1) := by decide +kernel
theorem d_MD_move_86 : decode prog_20_method_16_code 86 = .ok (.ior, 1) := by decide +kernel
theorem d_MD_move_87 : decode prog_20_method_16_code 87 = .ok (.iastore, 1) := by decide +kernel
theorem d_MD_move_88 : decode prog_20_method_16_code 88 = .ok (.iinc 5 1, 3) := by decide +kernel
theorem d_MD_move_91 : decode prog_20_method_16_code 91 = .ok (.goto (-77), 3) := by decide +kernel
theorem d_MD_move_94 : decode prog_20_method_16_code 94 = .ok (.return_, 1) := by decide +kernel
theorem d_MD_take_0 : decode prog_20_method_17_code 0 = .ok (.aload_n 0, 1) := by decide +kernel
theorem d_MD_take_1 : decode prog_20_method_17_code 1 = .ok (.iconst 0, 1) := by decide +kernel
theorem d_MD_take_2 : decode prog_20_method_17_code 2 = .ok (.putfield 108, 3) := by decide +kernel
theorem d_MD_take_5 : decode prog_20_method_17_code 5 = .ok (.iconst 0, 1) := by decide +kernel
theorem d_MD_take_6 : decode prog_20_method_17_code 6 = .ok (.istore_n 2, 1) := by decide +kernel
theorem d_MD_take_7 : decode prog_20_method_17_code 7 = .ok (.iload_n 2, 1) := by decide +kernel
theorem d_MD_take_8 : decode prog_20_method_17_code 8 = .ok (.aload_n 0, 1) := by decide +kernel
theorem d_MD_take_9 : decode prog_20_method_17_code 9 = .ok (.getfield 13, 3) := by decide +kernel
theorem d_MD_take_12 : decode prog_20_method_17_code 12 = .ok (.iload_n 1, 1) := by decide +kernel
theorem d_MD_take_13 : decode prog_20_method_17_code 13 = .ok (.iaload, 1) := by decide +kernel
theorem d_MD_take_14 : decode prog_20_method_17_code 14 = .ok (.if_icmp .ge 58, 3) := by decide +kernel
theorem d_MD_take_17 : decode prog_20_method_17_code 17 = .ok (.aload_n 0, 1) := by decide +kernel
theorem d_MD_take_18 : decode prog_20_method_17_code 18 = .ok (.aload_n 0, 1) := by decide +kernel
theorem d_MD_take_19 : decode prog_20_method_17_code 19 = .ok (.getfield 17, 3) := by decide +kernel
theorem d_MD_take_22 : decode prog_20_method_17_code 22 = .ok (.bipush 24, 2) := by decide +kernel
theorem d_MD_take_24 : decode prog_20_method_17_code 24 = .ok (.iload_n 1, 1) := by decide +kernel
theorem d_MD_take_25 : decode prog_20_method_17_code 25 = .ok (.imul, 1) := by decide +kernel
theorem d_MD_take_26 : decode prog_20_method_17_code 26 = .ok (.iload_n 2, 1) := by decide +kernel
theorem d_MD_take_27 : decode prog_20_method_17_code 27 = .ok (.iadd, 1) := by decide +kernel
theorem d_MD_take_28 : decode prog_20_method_17_code 28 = .ok (.iaload, 1) := by decide +kernel
theorem d_MD_take_29 : decode prog_20_method_17_code 29 = .ok (.aload_n 0, 1) := by decide +kernel
theorem d_MD_take_30 : decode prog_20_method_17_code 30 = .ok (.getfield 20, 3) := by decide +kernel
theorem d_MD_take_33 : decode prog_20_method_17_code 33 = .ok (.bipush 24, 2) := by decide +kernel
theorem d_MD_take_35 : decode prog_20_method_17_code 35 = .ok (.iload_n 1, 1) := by decide +kernel
theorem d_MD_take_36 : decode prog_20_method_17_code 36 = .ok (.imul, 1) := by decide +kernel
theorem d_MD_take_37 : decode prog_20_method_17_code 37 = .ok (.iload_n 2, 1) := by decide +kernel
theorem d_MD_take_38 : decode prog_20_method_17_code 38 = .ok (.iadd, 1) := by decide +kernel
theorem d_MD_take_39 : decode prog_20_method_17_code 39 = .ok (.iaload, 1) := by decide +kernel
theorem d_MD_take_40 : decode prog_20_method_17_code 40 = .ok (.aload_n 0, 1) := by decide +kernel
theorem d_MD_take_41 : decode prog_20_method_17_code 41 = .ok (.getfield 23, 3) := by decide +kernel
theorem d_MD_take_44 : decode prog_20_method_17_code 44 = .ok (.bipush 24, 2) := by decide +kernel
theorem d_MD_take_46 : decode prog_20_method_17_code 46 = .ok (.iload_n 1, 1) := by decide +kernel
theorem d_MD_take_47 : decode prog_20_method_17_code 47 = .ok (.imul, 1) := by decide +kernel
theorem d_MD_take_48 : decode prog_20_method_17_code 48 = .ok (.iload_n 2, 1) := by decide +kernel
theorem d_MD_take_49 : decode prog_20_method_17_code 49 = .ok (.iadd, 1) := by decide +kernel
theorem d_MD_take_50 : decode prog_20_method_17_code 50 = .ok (.iaload, 1) := by decide +kernel
theorem d_MD_take_51 : decode prog_20_method_17_code 51 = .ok (.aload_n 0, 1) := by decide +kernel
theorem d_MD_take_52 : decode prog_20_method_17_code 52 = .ok (.getfield 26, 3) := by decide +kernel
theorem d_MD_take_55 : decode prog_20_method_17_code 55 = .ok (.bipush 24, 2) := by decide +kernel
theorem d_MD_take_57 : decode prog_20_method_17_code 57 = .ok (.iload_n 1, 1) := by decide +kernel
theorem d_MD_take_58 : decode prog_20_method_17_code 58 = .ok (.imul, 1) := by decide +kernel
theorem d_MD_take_59 : decode prog_20_method_17_code 59 = .ok (.iload_n 2, 1) := by decide +kernel
theorem d_MD_take_60 : decode prog_20_method_17_code 60 = .ok (.iadd, 1) := by decide +kernel
theorem d_MD_take_61 : decode prog_20_method_17_code 61 = .ok (.iaload, 1) := by decide +kernel
theorem d_MD_take_62 : decode prog_20_method_17_code 62 = .ok (.invokevirtual 139, 3) := by decide +kernel
theorem d_MD_take_65 : decode prog_20_method_17_code 65 = .ok (.pop, 1) := by decide +kernel
theorem d_MD_take_66 : decode prog_20_method_17_code 66 = .ok (.iinc 2 1, 3) := by decide +kernel
theorem d_MD_take_69 : decode prog_20_method_17_code 69 = .ok (.goto (-62), 3) := by decide +kernel
theorem d_MD_take_72 : decode prog_20_method_17_code 72 = .ok (.return_, 1) := by decide +kernel
theorem d_MD_known_0 : decode prog_20_method_18_code 0 = .ok (.iconst 0, 1) := by decide +kernel
theorem d_MD_known_1 : decode prog_20_method_18_code 1 = .ok (.istore 7, 2) := by decide +kernel
theorem d_MD_known_3 : decode prog_20_method_18_code 3 = .ok (.iload 7, 2) := by decide +kernel
theorem d_MD_known_5 : decode prog_20_method_18_code 5 = .ok (.aload_n 0, 1) := by decide +kernel
theorem d_MD_known_6 : decode prog_20_method_18_code 6 = .ok (.getfield 143, 3) := by decide +kernel
theorem d_MD_known_9 : decode prog_20_method_18_code 9 = .ok (.if_icmp .ge 95, 3) := by decide +kernel
theorem d_MD_known_12 : decode prog_20_method_18_code 12 = .ok (.iconst 5, 1) := by decide +kernel
theorem d_MD_known_13 : decode prog_20_method_18_code 13 = .ok (.iload 7, 2) := by decide +kernel
theorem d_MD_known_15 : decode prog_20_method_18_code 15 = .ok (.imul, 1) := by decide +kernel
theorem d_MD_known_16 : decode prog_20_method_18_code 16 = .ok (.istore 8, 2) := by decide +kernel
theorem d_MD_known_18 : decode prog_20_method_18_code 18 = .ok (.aload_n 0, 1) := by decide +kernel
theorem d_MD_known_19 : decode prog_20_method_18_code 19 = .ok (.getfield 77, 3) := by decide +kernel
theorem d_MD_known_22 : decode prog_20_method_18_code 22 = .ok (.iload 7, 2) := by decide +kernel
theorem d_MD_known_24 : decode prog_20_method_18_code 24 = .ok (.iaload, 1) := by decide +kernel
theorem d_MD_known_25 : decode prog_20_method_18_code 25 = .ok (.iload_n 1, 1) := by decide +kernel
theorem d_MD_known_26 : decode prog_20_method_18_code 26 = .ok (.if_icmp .ne 72, 3) := by decide +kernel
theorem d_MD_known_29 : decode prog_20_method_18_code 29 = .ok (.aload_n 0, 1) := by decide +kernel
theorem d_MD_known_30 : decode prog_20_method_18_code 30 = .ok (.getfield 80, 3) := by decide +kernel
theorem d_MD_known_33 : decode prog_20_method_18_code 33 = .ok (.iload 8, 2) := by decide +kernel
theorem d_MD_known_35 : decode prog_20_method_18_code 35 = .ok (.iaload, 1) := by decide +kernel
theorem d_MD_known_36 : decode prog_20_method_18_code 36 = .ok (.iload_n 2, 1) := by decide +kernel
theorem d_MD_known_37 : decode prog_20_method_18_code 37 = .ok (.if_icmp .ne 61, 3) := by decide +kernel
theorem d_MD_known_40 : decode prog_20_method_18_code 40 = .ok (.aload_n 0, 1) := by decide +kernel
theorem d_MD_known_41 : decode prog_20_method_18_code 41 = .ok (.getfield 80, 3) := by decide +kernel
theorem d_MD_known_44 : decode prog_20_method_18_code 44 = .ok (.iload 8, 2) := by decide +kernel
theorem d_MD_known_46 : decode prog_20_method_18_code 46 = .ok (.iconst 1, 1) := by decide +kernel
theorem d_MD_known_47 : decode prog_20_method_18_code 47 = .ok (.iadd, 1) := by decide +kernel
theorem d_MD_known_48 : decode prog_20_method_18_code 48 = .ok (.iaload, 1) := by decide +kernel
theorem d_MD_known_49 : decode prog_20_method_18_code 49 = .ok (.iload_n 3, 1) := by decide +kernel
theorem d_MD_known_50 : decode prog_20_method_18_code 50 = .ok (.if_icmp .ne 48, 3) := by decide +kernel
theorem d_MD_known_53 : decode prog_20_method_18_code 53 = .ok (.aload_n 0, 1) := by decide +kernel
theorem d_MD_known_54 : decode prog_20_method_18_code 54 = .ok (.getfield 80, 3) := by decide +kernel
theorem d_MD_known_57 : decode prog_20_method_18_code 57 = .ok (.iload 8, 2) := by decide +kernel
theorem d_MD_known_59 : decode prog_20_method_18_code 59 = .ok (.iconst 2, 1) := by decide +kernel
theorem d_MD_known_60 : decode prog_20_method_18_code 60 = .ok (.iadd, 1) := by decide +kernel
theorem d_MD_known_61 : decode prog_20_method_18_code 61 = .ok (.iaload, 1) := by decide +kernel
theorem d_MD_known_62 : decode prog_20_method_18_code 62 = .ok (.iload 4, 2) := by decide +kernel
theorem d_MD_known_64 : decode prog_20_method_18_code 64 = .ok (.if_icmp .ne 34, 3) := by decide +kernel
theorem d_MD_known_67 : decode prog_20_method_18_code 67 = .ok (.aload_n 0, 1) := by decide +kernel
theorem d_MD_known_68 : decode prog_20_method_18_code 68 = .ok (.getfield 80, 3) := by decide +kernel
theorem d_MD_known_71 : decode prog_20_method_18_code 71 = .ok (.iload 8, 2) := by decide +kernel
theorem d_MD_known_73 : decode prog_20_method_18_code 73 = .ok (.iconst 3, 1) := by decide +kernel
theorem d_MD_known_74 : decode prog_20_method_18_code 74 = .ok (.iadd, 1) := by decide +kernel
theorem d_MD_known_75 : decode prog_20_method_18_code 75 = .ok (.iaload, 1) := by decide +kernel
theorem d_MD_known_76 : decode prog_20_method_18_code 76 = .ok (.iload 5, 2) := by decide +kernel
theorem d_MD_known_78 : decode prog_20_method_18_code 78 = .ok (.if_icmp .ne 20, 3) := by decide +kernel
theorem d_MD_known_81 : decode prog_20_method_18_code 81 = .ok (.aload_n 0, 1) := by decide +kernel
theorem d_MD_known_82 : decode prog_20_method_18_code 82 = .ok (.getfield 80, 3) := by decide +kernel
theorem d_MD_known_85 : decode prog_20_method_18_code 85 = .ok (.iload 8, 2) := by decide +kernel
theorem d_MD_known_87 : decode prog_20_method_18_code 87 = .ok (.iconst 4, 1) := by decide +kernel
theorem d_MD_known_88 : decode prog_20_method_18_code 88 = .ok (.iadd, 1) := by decide +kernel
theorem d_MD_known_89 : decode prog_20_method_18_code 89 = .ok (.iaload, 1) := by decide +kernel
theorem d_MD_known_90 : decode prog_20_method_18_code 90 = .ok (.iload 6, 2) := by decide +kernel
theorem d_MD_known_92 : decode prog_20_method_18_code 92 = .ok (.if_icmp .ne 6, 3) := by decide +kernel
theorem d_MD_known_95 : decode prog_20_method_18_code 95 = .ok (.iload 7, 2) := by decide +kernel
theorem d_MD_known_97 : decode prog_20_method_18_code 97 = .ok (.ireturn, 1) := by decide +kernel
theorem d_MD_known_98 : decode prog_20_method_18_code 98 = .ok (.iinc 7 1, 3) := by decide +kernel
theorem d_MD_known_101 : decode prog_20_method_18_code 101 = .ok (.goto (-98), 3) := by decide +kernel
theorem d_MD_known_104 : decode prog_20_method_18_code 104 = .ok (.aload_n 0, 1) := by decide +kernel
theorem d_MD_known_105 : decode prog_20_method_18_code 105 = .ok (.getfield 77, 3) := by decide +kernel
theorem d_MD_known_108 : decode prog_20_method_18_code 108 = .ok (.aload_n 0, 1) := by decide +kernel
theorem d_MD_known_109 : decode prog_20_method_18_code 109 = .ok (.getfield 143, 3) := by decide +kernel
theorem d_MD_known_112 : decode prog_20_method_18_code 112 = .ok (.iload_n 1, 1) := by decide +kernel
theorem d_MD_known_113 : decode prog_20_method_18_code 113 = .ok (.iastore, 1) := by decide +kernel
theorem d_MD_known_114 : decode prog_20_method_18_code 114 = .ok (.aload_n 0, 1) := by decide +kernel
theorem d_MD_known_115 : decode prog_20_method_18_code 115 = .ok (.getfield 80, 3) := by decide +kernel
theorem d_MD_known_118 : decode prog_20_method_18_code 118 = .ok (.iconst 5, 1) := by decide +kernel
theorem d_MD_known_119 : decode prog_20_method_18_code 119 = .ok (.aload_n 0, 1) := by decide +kernel
theorem d_MD_known_120 : decode prog_20_method_18_code 120 = .ok (.getfield 143, 3) := by decide +kernel
theorem d_MD_known_123 : decode prog_20_method_18_code 123 = .ok (.imul, 1) := by decide +kernel
theorem d_MD_known_124 : decode prog_20_method_18_code 124 = .ok (.iload_n 2, 1) := by decide +kernel
theorem d_MD_known_125 : decode prog_20_method_18_code 125 = .ok (.iastore, 1) := by decide +kernel
theorem d_MD_known_126 : decode prog_20_method_18_code 126 = .ok (.aload_n 0, 1) := by decide +kernel
theorem d_MD_known_127 : decode prog_20_method_18_code 127 = .ok (.getfield 80, 3) := by decide +kernel
theorem d_MD_known_130 : decode prog_20_method_18_code 130 = .ok (.iconst 5, 1) := by decide +kernel
theorem d_MD_known_131 : decode prog_20_method_18_code 131 = .ok (.aload_n 0, 1) := by decide +kernel
theorem d_MD_known_132 : decode prog_20_method_18_code 132 = .ok (.getfield 143, 3) := by decide +kernel
theorem d_MD_known_135 : decode prog_20_method_18_code 135 = .ok (.imul, 1) := by decide +kernel
theorem d_MD_known_136 : decode prog_20_method_18_code 136 = .ok (.iconst 1, 1) := by decide +kernel
theorem d_MD_known_137 : decode prog_20_method_18_code 137 = .ok (.iadd, 1) := by decide +kernel
theorem d_MD_known_138 : decode prog_20_method_18_code 138 = .ok (.iload_n 3, 1) := by decide +kernel
theorem d_MD_known_139 : decode prog_20_method_18_code 139 = .ok (.iastore, 1) := by decide +kernel
theorem d_MD_known_140 : decode prog_20_method_18_code 140 = .ok (.aload_n 0, 1) := by decide +kernel
theorem d_MD_known_141 : decode prog_20_method_18_code 141 = .ok (.getfield 80, 3) := by decide +kernel
theorem d_MD_known_144 : decode prog_20_method_18_code 144 = .ok (.iconst 5, 1) := by decide +kernel
theorem d_MD_known_145 : decode prog_20_method_18_code 145 = .ok (.aload_n 0, 1) := by decide +kernel
theorem d_MD_known_146 : decode prog_20_method_18_code 146 = .ok (.getfield 143, 3) := by decide +kernel
theorem d_MD_known_149 : decode prog_20_method_18_code 149 = .ok (.imul, 1) := by decide +kernel
theorem d_MD_known_150 : decode prog_20_method_18_code 150 = .ok (.iconst 2, 1) := by decide +kernel
theorem d_MD_known_151 : decode prog_20_method_18_code 151 = .ok (.iadd, 1) := by decide +kernel
theorem d_MD_known_152 : decode prog_20_method_18_code 152 = .ok (.iload 4, 2) := by decide +kernel
theorem d_MD_known_154 : decode prog_20_method_18_code 154 = .ok (.iastore, 1) := by decide +kernel
theorem d_MD_known_155 : decode prog_20_method_18_code 155 = .ok (.aload_n 0, 1) := by decide +kernel
theorem d_MD_known_156 : decode prog_20_method_18_code 156 = .ok (.getfield 80, 3) := by decide +kernel
theorem d_MD_known_159 : decode prog_20_method_18_code 159 = .ok (.iconst 5, 1) := by decide +kernel
theorem d_MD_known_160 : decode prog_20_method_18_code 160 = .ok (.aload_n 0, 1) := by decide +kernel
theorem d_MD_known_161 : decode prog_20_method_18_code 161 = .ok (.getfield 143, 3) := by decide +kernel
theorem d_MD_known_164 : decode prog_20_method_18_code 164 = .ok (.imul, 1) := by decide +kernel
theorem d_MD_known_165 : decode prog_20_method_18_code 165 = .ok (.iconst 3, 1) := by decide +kernel
theorem d_MD_known_166 : decode prog_20_method_18_code 166 = .ok (.iadd, 1) := by decide +kernel
theorem d_MD_known_167 : decode prog_20_method_18_code 167 = .ok (.iload 5, 2) := by decide +kernel
theorem d_MD_known_169 : decode prog_20_method_18_code 169 = .ok (.iastore, 1) := by decide +kernel
theorem d_MD_known_170 : decode prog_20_method_18_code 170 = .ok (.aload_n 0, 1) := by decide +kernel
theorem d_MD_known_171 : decode prog_20_method_18_code 171 = .ok (.getfield 80, 3) := by decide +kernel
theorem d_MD_known_174 : decode prog_20_method_18_code 174 = .ok (.iconst 5, 1) := by decide +kernel
theorem d_MD_known_175 : decode prog_20_method_18_code 175 = .ok (.aload_n 0, 1) := by decide +kernel
theorem d_MD_known_176 : decode prog_20_method_18_code 176 = .ok (.getfield 143, 3) := by decide +kernel
theorem d_MD_known_179 : decode prog_20_method_18_code 179 = .ok (.imul, 1) := by decide +kernel
theorem d_MD_known_180 : decode prog_20_method_18_code 180 = .ok (.iconst 4, 1) := by decide +kernel
theorem d_MD_known_181 : decode prog_20_method_18_code 181 = .ok (.iadd, 1) := by decide +kernel
theorem d_MD_known_182 : decode prog_20_method_18_code 182 = .ok (.iload 6, 2) := by decide +kernel
theorem d_MD_known_184 : decode prog_20_method_18_code 184 = .ok (.iastore, 1) := by decide +kernel
theorem d_MD_known_185 : decode prog_20_method_18_code 185 = .ok (.aload_n 0, 1) := by decide +kernel
theorem d_MD_known_186 : decode prog_20_method_18_code 186 = .ok (.dup, 1) := by decide +kernel
theorem d_MD_known_187 : decode prog_20_method_18_code 187 = .ok (.getfield 143, 3) := by decide +kernel
theorem d_MD_known_190 : decode prog_20_method_18_code 190 = .ok (.iconst 1, 1) := by decide +kernel
theorem d_MD_known_191 : decode prog_20_method_18_code 191 = .ok (.iadd, 1) := by decide +kernel
theorem d_MD_known_192 : decode prog_20_method_18_code 192 = .ok (.putfield 143, 3) := by decide +kernel
theorem d_MD_known_195 : decode prog_20_method_18_code 195 = .ok (.aload_n 0, 1) := by decide +kernel
theorem d_MD_known_196 : decode prog_20_method_18_code 196 = .ok (.getfield 143, 3) := by decide +kernel
theorem d_MD_known_199 : decode prog_20_method_18_code 199 = .ok (.iconst 1, 1) := by decide +kernel
theorem d_MD_known_200 : decode prog_20_method_18_code 200 = .ok (.isub, 1) := by decide +kernel
theorem d_MD_known_201 : decode prog_20_method_18_code 201 = .ok (.ireturn, 1) := by decide +kernel
theorem d_MD_number_0 : decode prog_20_method_19_code 0 = .ok (.aload_n 0, 1) := by decide +kernel
theorem d_MD_number_1 : decode prog_20_method_19_code 1 = .ok (.iconst 1, 1) := by decide +kernel
theorem d_MD_number_2 : decode prog_20_method_19_code 2 = .ok (.iload_n 1, 1) := by decide +kernel
theorem d_MD_number_3 : decode prog_20_method_19_code 3 = .ok (.iconst 0, 1) := by decide +kernel
theorem d_MD_number_4 : decode prog_20_method_19_code 4 = .ok (.iconst 0, 1) := by decide +kernel
theorem d_MD_number_5 : decode prog_20_method_19_code 5 = .ok (.iconst 0, 1) := by decide +kernel
theorem d_MD_number_6 : decode prog_20_method_19_code 6 = .ok (.iconst 0, 1) := by decide +kernel
theorem d_MD_number_7 : decode prog_20_method_19_code 7 = .ok (.invokevirtual 124, 3) := by decide +kernel
theorem d_MD_number_10 : decode prog_20_method_19_code 10 = .ok (.ireturn, 1) := by decide +kernel
theorem d_MD_isNumber_0 : decode prog_20_method_20_code 0 = .ok (.aload_n 0, 1) := by decide +kernel
theorem d_MD_isNumber_1 : decode prog_20_method_20_code 1 = .ok (.getfield 77, 3) := by decide +kernel
theorem d_MD_isNumber_4 : decode prog_20_method_20_code 4 = .ok (.iload_n 1, 1) := by decide +kernel
theorem d_MD_isNumber_5 : decode prog_20_method_20_code 5 = .ok (.iaload, 1) := by decide +kernel
theorem d_MD_isNumber_6 : decode prog_20_method_20_code 6 = .ok (.iconst 1, 1) := by decide +kernel
theorem d_MD_isNumber_7 : decode prog_20_method_20_code 7 = .ok (.if_icmp .ne 7, 3) := by decide +kernel
theorem d_MD_isNumber_10 : decode prog_20_method_20_code 10 = .ok (.iconst 1, 1) := by decide +kernel
theorem d_MD_isNumber_11 : decode prog_20_method_20_code 11 = .ok (.goto 4, 3) := by decide +kernel
theorem d_MD_isNumber_14 : decode prog_20_method_20_code 14 = .ok (.iconst 0, 1) := by decide +kernel
theorem d_MD_isNumber_15 : decode prog_20_method_20_code 15 = .ok (.ireturn, 1) := by decide +kernel
theorem d_MD_argument_0 : decode prog_20_method_21_code 0 = .ok (.aload_n 0, 1) := by decide +kernel
theorem d_MD_argument_1 : decode prog_20_method_21_code 1 = .ok (.getfield 80, 3) := by decide +kernel
theorem d_MD_argument_4 : decode prog_20_method_21_code 4 = .ok (.iconst 5, 1) := by decide +kernel
theorem d_MD_argument_5 : decode prog_20_method_21_code 5 = .ok (.iload_n 1, 1) := by decide +kernel
theorem d_MD_argument_6 : decode prog_20_method_21_code 6 = .ok (.imul, 1) := by decide +kernel
theorem d_MD_argument_7 : decode prog_20_method_21_code 7 = .ok (.iload_n 2, 1) := by decide +kernel
theorem d_MD_argument_8 : decode prog_20_method_21_code 8 = .ok (.iadd, 1) := by decide +kernel
theorem d_MD_argument_9 : decode prog_20_method_21_code 9 = .ok (.iaload, 1) := by decide +kernel
theorem d_MD_argument_10 : decode prog_20_method_21_code 10 = .ok (.ireturn, 1) := by decide +kernel
theorem d_MD_floor_0 : decode prog_20_method_22_code 0 = .ok (.lload_n 0, 1) := by decide +kernel
theorem d_MD_floor_1 : decode prog_20_method_22_code 1 = .ok (.lload_n 2, 1) := by decide +kernel
theorem d_MD_floor_2 : decode prog_20_method_22_code 2 = .ok (.ldiv, 1) := by decide +kernel
theorem d_MD_floor_3 : decode prog_20_method_22_code 3 = .ok (.lstore 4, 2) := by decide +kernel
theorem d_MD_floor_5 : decode prog_20_method_22_code 5 = .ok (.lload 4, 2) := by decide +kernel
theorem d_MD_floor_7 : decode prog_20_method_22_code 7 = .ok (.lload_n 2, 1) := by decide +kernel
theorem d_MD_floor_8 : decode prog_20_method_22_code 8 = .ok (.lmul, 1) := by decide +kernel
theorem d_MD_floor_9 : decode prog_20_method_22_code 9 = .ok (.lload_n 0, 1) := by decide +kernel
theorem d_MD_floor_10 : decode prog_20_method_22_code 10 = .ok (.lcmp, 1) := by decide +kernel
theorem d_MD_floor_11 : decode prog_20_method_22_code 11 = .ok (.ifCond .le 10, 3) := by decide +kernel
theorem d_MD_floor_14 : decode prog_20_method_22_code 14 = .ok (.lload 4, 2) := by decide +kernel
theorem d_MD_floor_16 : decode prog_20_method_22_code 16 = .ok (.lconst 1, 1) := by decide +kernel
theorem d_MD_floor_17 : decode prog_20_method_22_code 17 = .ok (.lsub, 1) := by decide +kernel
theorem d_MD_floor_18 : decode prog_20_method_22_code 18 = .ok (.goto 5, 3) := by decide +kernel
theorem d_MD_floor_21 : decode prog_20_method_22_code 21 = .ok (.lload 4, 2) := by decide +kernel
theorem d_MD_floor_23 : decode prog_20_method_22_code 23 = .ok (.lreturn, 1) := by decide +kernel
theorem d_MD_isInt_0 : decode prog_20_method_23_code 0 = .ok (.lload_n 0, 1) := by decide +kernel
theorem d_MD_isInt_1 : decode prog_20_method_23_code 1 = .ok (.ldc2_w 146, 3) := by decide +kernel
theorem d_MD_isInt_4 : decode prog_20_method_23_code 4 = .ok (.lcmp, 1) := by decide +kernel
theorem d_MD_isInt_5 : decode prog_20_method_23_code 5 = .ok (.ifCond .lt 15, 3) := by decide +kernel
theorem d_MD_isInt_8 : decode prog_20_method_23_code 8 = .ok (.lload_n 0, 1) := by decide +kernel
theorem d_MD_isInt_9 : decode prog_20_method_23_code 9 = .ok (.ldc2_w 148, 3) := by decide +kernel
theorem d_MD_isInt_12 : decode prog_20_method_23_code 12 = .ok (.lcmp, 1) := by decide +kernel
theorem d_MD_isInt_13 : decode prog_20_method_23_code 13 = .ok (.ifCond .gt 7, 3) := by decide +kernel
theorem d_MD_isInt_16 : decode prog_20_method_23_code 16 = .ok (.iconst 1, 1) := by decide +kernel
theorem d_MD_isInt_17 : decode prog_20_method_23_code 17 = .ok (.goto 4, 3) := by decide +kernel
theorem d_MD_isInt_20 : decode prog_20_method_23_code 20 = .ok (.iconst 0, 1) := by decide +kernel
theorem d_MD_isInt_21 : decode prog_20_method_23_code 21 = .ok (.ireturn, 1) := by decide +kernel
theorem d_MD_within_0 : decode prog_20_method_24_code 0 = .ok (.lload_n 0, 1) := by decide +kernel
theorem d_MD_within_1 : decode prog_20_method_24_code 1 = .ok (.iload_n 2, 1) := by decide +kernel
theorem d_MD_within_2 : decode prog_20_method_24_code 2 = .ok (.i2l, 1) := by decide +kernel
theorem d_MD_within_3 : decode prog_20_method_24_code 3 = .ok (.lcmp, 1) := by decide +kernel
theorem d_MD_within_4 : decode prog_20_method_24_code 4 = .ok (.ifCond .ge 8, 3) := by decide +kernel
theorem d_MD_within_7 : decode prog_20_method_24_code 7 = .ok (.iload_n 2, 1) := by decide +kernel
theorem d_MD_within_8 : decode prog_20_method_24_code 8 = .ok (.i2l, 1) := by decide +kernel
theorem d_MD_within_9 : decode prog_20_method_24_code 9 = .ok (.goto 16, 3) := by decide +kernel
theorem d_MD_within_12 : decode prog_20_method_24_code 12 = .ok (.lload_n 0, 1) := by decide +kernel
theorem d_MD_within_13 : decode prog_20_method_24_code 13 = .ok (.iload_n 3, 1) := by decide +kernel
theorem d_MD_within_14 : decode prog_20_method_24_code 14 = .ok (.i2l, 1) := by decide +kernel
theorem d_MD_within_15 : decode prog_20_method_24_code 15 = .ok (.lcmp, 1) := by decide +kernel
theorem d_MD_within_16 : decode prog_20_method_24_code 16 = .ok (.ifCond .le 8, 3) := by decide +kernel
theorem d_MD_within_19 : decode prog_20_method_24_code 19 = .ok (.iload_n 3, 1) := by decide +kernel
theorem d_MD_within_20 : decode prog_20_method_24_code 20 = .ok (.i2l, 1) := by decide +kernel
theorem d_MD_within_21 : decode prog_20_method_24_code 21 = .ok (.goto 4, 3) := by decide +kernel
theorem d_MD_within_24 : decode prog_20_method_24_code 24 = .ok (.lload_n 0, 1) := by decide +kernel
theorem d_MD_within_25 : decode prog_20_method_24_code 25 = .ok (.lreturn, 1) := by decide +kernel
theorem d_MD_at_0 : decode prog_20_method_25_code 0 = .ok (.bipush 8, 2) := by decide +kernel
theorem d_MD_at_2 : decode prog_20_method_25_code 2 = .ok (.bipush 8, 2) := by decide +kernel
theorem d_MD_at_4 : decode prog_20_method_25_code 4 = .ok (.iload_n 1, 1) := by decide +kernel
theorem d_MD_at_5 : decode prog_20_method_25_code 5 = .ok (.imul, 1) := by decide +kernel
theorem d_MD_at_6 : decode prog_20_method_25_code 6 = .ok (.iload_n 2, 1) := by decide +kernel
theorem d_MD_at_7 : decode prog_20_method_25_code 7 = .ok (.iadd, 1) := by decide +kernel
theorem d_MD_at_8 : decode prog_20_method_25_code 8 = .ok (.imul, 1) := by decide +kernel
theorem d_MD_at_9 : decode prog_20_method_25_code 9 = .ok (.ireturn, 1) := by decide +kernel
theorem d_MD_pathBehind_0 : decode prog_20_method_26_code 0 = .ok (.iload_n 2, 1) := by decide +kernel
theorem d_MD_pathBehind_1 : decode prog_20_method_26_code 1 = .ok (.invokestatic 132, 3) := by decide +kernel
theorem d_MD_pathBehind_4 : decode prog_20_method_26_code 4 = .ok (.istore 4, 2) := by decide +kernel
theorem d_MD_pathBehind_6 : decode prog_20_method_26_code 6 = .ok (.iload_n 1, 1) := by decide +kernel
theorem d_MD_pathBehind_7 : decode prog_20_method_26_code 7 = .ok (.ifCond .ne 22, 3) := by decide +kernel
theorem d_MD_pathBehind_10 : decode prog_20_method_26_code 10 = .ok (.iload_n 2, 1) := by decide +kernel
theorem d_MD_pathBehind_11 : decode prog_20_method_26_code 11 = .ok (.iload 4, 2) := by decide +kernel
theorem d_MD_pathBehind_13 : decode prog_20_method_26_code 13 = .ok (.iconst 1, 1) := by decide +kernel
theorem d_MD_pathBehind_14 : decode prog_20_method_26_code 14 = .ok (.isub, 1) := by decide +kernel
theorem d_MD_pathBehind_15 : decode prog_20_method_26_code 15 = .ok (.invokestatic 104, 3) := by decide +kernel
theorem d_MD_pathBehind_18 : decode prog_20_method_26_code 18 = .ok (.iload 4, 2) := by decide +kernel
theorem d_MD_pathBehind_20 : decode prog_20_method_26_code 20 = .ok (.iconst 1, 1) := by decide +kernel
theorem d_MD_pathBehind_21 : decode prog_20_method_26_code 21 = .ok (.isub, 1) := by decide +kernel
theorem d_MD_pathBehind_22 : decode prog_20_method_26_code 22 = .ok (.iload_n 3, 1) := by decide +kernel
theorem d_MD_pathBehind_23 : decode prog_20_method_26_code 23 = .ok (.iconst 1, 1) := by decide +kernel
theorem d_MD_pathBehind_24 : decode prog_20_method_26_code 24 = .ok (.iadd, 1) := by decide +kernel
theorem d_MD_pathBehind_25 : decode prog_20_method_26_code 25 = .ok (.invokestatic 150, 3) := by decide +kernel
theorem d_MD_pathBehind_28 : decode prog_20_method_26_code 28 = .ok (.ireturn, 1) := by decide +kernel
theorem d_MD_pathBehind_29 : decode prog_20_method_26_code 29 = .ok (.iload_n 1, 1) := by decide +kernel
theorem d_MD_pathBehind_30 : decode prog_20_method_26_code 30 = .ok (.iconst 4, 1) := by decide +kernel
theorem d_MD_pathBehind_31 : decode prog_20_method_26_code 31 = .ok (.if_icmp .ne 25, 3) := by decide +kernel
theorem d_MD_pathBehind_34 : decode prog_20_method_26_code 34 = .ok (.iload_n 2, 1) := by decide +kernel
theorem d_MD_pathBehind_35 : decode prog_20_method_26_code 35 = .ok (.iload 4, 2) := by decide +kernel
theorem d_MD_pathBehind_37 : decode prog_20_method_26_code 37 = .ok (.iconst 2, 1) := by decide +kernel
theorem d_MD_pathBehind_38 : decode prog_20_method_26_code 38 = .ok (.isub, 1) := by decide +kernel
theorem d_MD_pathBehind_39 : decode prog_20_method_26_code 39 = .ok (.invokestatic 104, 3) := by decide +kernel
theorem d_MD_pathBehind_42 : decode prog_20_method_26_code 42 = .ok (.iload 4, 2) := by decide +kernel
theorem d_MD_pathBehind_44 : decode prog_20_method_26_code 44 = .ok (.iconst 2, 1) := by decide +kernel
theorem d_MD_pathBehind_45 : decode prog_20_method_26_code 45 = .ok (.isub, 1) := by decide +kernel
theorem d_MD_pathBehind_46 : decode prog_20_method_26_code 46 = .ok (.iload_n 2, 1) := by decide +kernel
theorem d_MD_pathBehind_47 : decode prog_20_method_26_code 47 = .ok (.iload 4, 2) := by decide +kernel
theorem d_MD_pathBehind_49 : decode prog_20_method_26_code 49 = .ok (.invokestatic 154, 3) := by decide +kernel
theorem d_MD_pathBehind_52 : decode prog_20_method_26_code 52 = .ok (.invokestatic 150, 3) := by decide +kernel
theorem d_MD_pathBehind_55 : decode prog_20_method_26_code 55 = .ok (.ireturn, 1) := by decide +kernel
theorem d_MD_pathBehind_56 : decode prog_20_method_26_code 56 = .ok (.iload_n 2, 1) := by decide +kernel
theorem d_MD_pathBehind_57 : decode prog_20_method_26_code 57 = .ok (.ireturn, 1) := by decide +kernel
theorem d_MD_besides_0 : decode prog_20_method_27_code 0 = .ok (.iload_n 0, 1) := by decide +kernel
theorem d_MD_besides_1 : decode prog_20_method_27_code 1 = .ok (.invokestatic 132, 3) := by decide +kernel
theorem d_MD_besides_4 : decode prog_20_method_27_code 4 = .ok (.istore_n 2, 1) := by decide +kernel
theorem d_MD_besides_5 : decode prog_20_method_27_code 5 = .ok (.iload_n 0, 1) := by decide +kernel
theorem d_MD_besides_6 : decode prog_20_method_27_code 6 = .ok (.iload_n 2, 1) := by decide +kernel
theorem d_MD_besides_7 : decode prog_20_method_27_code 7 = .ok (.iconst 1, 1) := by decide +kernel
theorem d_MD_besides_8 : decode prog_20_method_27_code 8 = .ok (.isub, 1) := by decide +kernel
theorem d_MD_besides_9 : decode prog_20_method_27_code 9 = .ok (.invokestatic 104, 3) := by decide +kernel
theorem d_MD_besides_12 : decode prog_20_method_27_code 12 = .ok (.iload_n 2, 1) := by decide +kernel
theorem d_MD_besides_13 : decode prog_20_method_27_code 13 = .ok (.iconst 1, 1) := by decide +kernel
theorem d_MD_besides_14 : decode prog_20_method_27_code 14 = .ok (.isub, 1) := by decide +kernel
theorem d_MD_besides_15 : decode prog_20_method_27_code 15 = .ok (.iload_n 1, 1) := by decide +kernel
theorem d_MD_besides_16 : decode prog_20_method_27_code 16 = .ok (.iconst 1, 1) := by decide +kernel
theorem d_MD_besides_17 : decode prog_20_method_27_code 17 = .ok (.iadd, 1) := by decide +kernel
theorem d_MD_besides_18 : decode prog_20_method_27_code 18 = .ok (.invokestatic 150, 3) := by decide +kernel
theorem d_MD_besides_21 : decode prog_20_method_27_code 21 = .ok (.ireturn, 1) := by decide +kernel
theorem d_MD_forth_0 : decode prog_20_method_28_code 0 = .ok (.aload_n 0, 1) := by decide +kernel
theorem d_MD_forth_1 : decode prog_20_method_28_code 1 = .ok (.iload_n 1, 1) := by decide +kernel
theorem d_MD_forth_2 : decode prog_20_method_28_code 2 = .ok (.iload_n 2, 1) := by decide +kernel
theorem d_MD_forth_3 : decode prog_20_method_28_code 3 = .ok (.invokevirtual 157, 3) := by decide +kernel
theorem d_MD_forth_6 : decode prog_20_method_28_code 6 = .ok (.istore_n 3, 1) := by decide +kernel
theorem d_MD_forth_7 : decode prog_20_method_28_code 7 = .ok (.aload_n 0, 1) := by decide +kernel
theorem d_MD_forth_8 : decode prog_20_method_28_code 8 = .ok (.getfield 38, 3) := by decide +kernel
theorem d_MD_forth_11 : decode prog_20_method_28_code 11 = .ok (.iload_n 3, 1) := by decide +kernel
theorem d_MD_forth_12 : decode prog_20_method_28_code 12 = .ok (.iaload, 1) := by decide +kernel
theorem d_MD_forth_13 : decode prog_20_method_28_code 13 = .ok (.istore 4, 2) := by decide +kernel
theorem d_MD_forth_15 : decode prog_20_method_28_code 15 = .ok (.aload_n 0, 1) := by decide +kernel
theorem d_MD_forth_16 : decode prog_20_method_28_code 16 = .ok (.getfield 38, 3) := by decide +kernel
theorem d_MD_forth_19 : decode prog_20_method_28_code 19 = .ok (.iload_n 3, 1) := by decide +kernel
theorem d_MD_forth_20 : decode prog_20_method_28_code 20 = .ok (.iconst 1, 1) := by decide +kernel
theorem d_MD_forth_21 : decode prog_20_method_28_code 21 = .ok (.iadd, 1) := by decide +kernel
theorem d_MD_forth_22 : decode prog_20_method_28_code 22 = .ok (.iaload, 1) := by decide +kernel
theorem d_MD_forth_23 : decode prog_20_method_28_code 23 = .ok (.istore 5, 2) := by decide +kernel
theorem d_MD_forth_25 : decode prog_20_method_28_code 25 = .ok (.aload_n 0, 1) := by decide +kernel
theorem d_MD_forth_26 : decode prog_20_method_28_code 26 = .ok (.getfield 38, 3) := by decide +kernel
theorem d_MD_forth_29 : decode prog_20_method_28_code 29 = .ok (.iload_n 3, 1) := by decide +kernel
theorem d_MD_forth_30 : decode prog_20_method_28_code 30 = .ok (.iconst 2, 1) := by decide +kernel
theorem d_MD_forth_31 : decode prog_20_method_28_code 31 = .ok (.iadd, 1) := by decide +kernel
theorem d_MD_forth_32 : decode prog_20_method_28_code 32 = .ok (.iaload, 1) := by decide +kernel
theorem d_MD_forth_33 : decode prog_20_method_28_code 33 = .ok (.istore 6, 2) := by decide +kernel
theorem d_MD_forth_35 : decode prog_20_method_28_code 35 = .ok (.aload_n 0, 1) := by decide +kernel
theorem d_MD_forth_36 : decode prog_20_method_28_code 36 = .ok (.getfield 38, 3) := by decide +kernel
theorem d_MD_forth_39 : decode prog_20_method_28_code 39 = .ok (.iload_n 3, 1) := by decide +kernel
theorem d_MD_forth_40 : decode prog_20_method_28_code 40 = .ok (.iconst 3, 1) := by decide +kernel
theorem d_MD_forth_41 : decode prog_20_method_28_code 41 = .ok (.iadd, 1) := by decide +kernel
theorem d_MD_forth_42 : decode prog_20_method_28_code 42 = .ok (.iaload, 1) := by decide +kernel
theorem d_MD_forth_43 : decode prog_20_method_28_code 43 = .ok (.istore 7, 2) := by decide +kernel
theorem d_MD_forth_45 : decode prog_20_method_28_code 45 = .ok (.bipush 8, 2) := by decide +kernel
theorem d_MD_forth_47 : decode prog_20_method_28_code 47 = .ok (.iload_n 1, 1) := by decide +kernel
theorem d_MD_forth_48 : decode prog_20_method_28_code 48 = .ok (.imul, 1) := by decide +kernel
theorem d_MD_forth_49 : decode prog_20_method_28_code 49 = .ok (.iload_n 2, 1) := by decide +kernel
theorem d_MD_forth_50 : decode prog_20_method_28_code 50 = .ok (.iadd, 1) := by decide +kernel
theorem d_MD_forth_51 : decode prog_20_method_28_code 51 = .ok (.istore 8, 2) := by decide +kernel
theorem d_MD_forth_53 : decode prog_20_method_28_code 53 = .ok (.aload_n 0, 1) := by decide +kernel
theorem d_MD_forth_54 : decode prog_20_method_28_code 54 = .ok (.iload 5, 2) := by decide +kernel
theorem d_MD_forth_56 : decode prog_20_method_28_code 56 = .ok (.invokevirtual 111, 3) := by decide +kernel
theorem d_MD_forth_59 : decode prog_20_method_28_code 59 = .ok (.istore 9, 2) := by decide +kernel
theorem d_MD_forth_61 : decode prog_20_method_28_code 61 = .ok (.iload 4, 2) := by decide +kernel
theorem d_MD_forth_63 : decode prog_20_method_28_code 63 = .ok (.tableswitch 229 0 6 #[41, 60, 70, 81, 41, 143, 158], 41) := by decide +kernel
theorem d_MD_forth_104 : decode prog_20_method_28_code 104 = .ok (.aload_n 0, 1) := by decide +kernel
theorem d_MD_forth_105 : decode prog_20_method_28_code 105 = .ok (.iload 5, 2) := by decide +kernel
theorem d_MD_forth_107 : decode prog_20_method_28_code 107 = .ok (.aload_n 0, 1) := by decide +kernel
theorem d_MD_forth_108 : decode prog_20_method_28_code 108 = .ok (.iload 4, 2) := by decide +kernel
theorem d_MD_forth_110 : decode prog_20_method_28_code 110 = .ok (.iload 5, 2) := by decide +kernel
theorem d_MD_forth_112 : decode prog_20_method_28_code 112 = .ok (.iload 6, 2) := by decide +kernel
theorem d_MD_forth_114 : decode prog_20_method_28_code 114 = .ok (.invokevirtual 160, 3) := by decide +kernel
theorem d_MD_forth_117 : decode prog_20_method_28_code 117 = .ok (.invokevirtual 163, 3) := by decide +kernel
theorem d_MD_forth_120 : decode prog_20_method_28_code 120 = .ok (.goto 188, 3) := by decide +kernel
theorem d_MD_forth_123 : decode prog_20_method_28_code 123 = .ok (.aload_n 0, 1) := by decide +kernel
theorem d_MD_forth_124 : decode prog_20_method_28_code 124 = .ok (.iload_n 3, 1) := by decide +kernel
theorem d_MD_forth_125 : decode prog_20_method_28_code 125 = .ok (.iload 8, 2) := by decide +kernel
theorem d_MD_forth_127 : decode prog_20_method_28_code 127 = .ok (.invokevirtual 167, 3) := by decide +kernel
theorem d_MD_forth_130 : decode prog_20_method_28_code 130 = .ok (.goto 178, 3) := by decide +kernel
theorem d_MD_forth_133 : decode prog_20_method_28_code 133 = .ok (.aload_n 0, 1) := by decide +kernel
theorem d_MD_forth_134 : decode prog_20_method_28_code 134 = .ok (.iload 5, 2) := by decide +kernel
theorem d_MD_forth_136 : decode prog_20_method_28_code 136 = .ok (.iload 8, 2) := by decide +kernel
theorem d_MD_forth_138 : decode prog_20_method_28_code 138 = .ok (.invokevirtual 170, 3) := by decide +kernel
theorem d_MD_forth_141 : decode prog_20_method_28_code 141 = .ok (.goto 167, 3) := by decide +kernel
theorem d_MD_forth_144 : decode prog_20_method_28_code 144 = .ok (.aload_n 0, 1) := by decide +kernel
theorem d_MD_forth_145 : decode prog_20_method_28_code 145 = .ok (.getfield 56, 3) := by decide +kernel
theorem d_MD_forth_148 : decode prog_20_method_28_code 148 = .ok (.iload 9, 2) := by decide +kernel
theorem d_MD_forth_150 : decode prog_20_method_28_code 150 = .ok (.iconst 1, 1) := by decide +kernel
theorem d_MD_forth_151 : decode prog_20_method_28_code 151 = .ok (.iastore, 1) := by decide +kernel
theorem d_MD_forth_152 : decode prog_20_method_28_code 152 = .ok (.aload_n 0, 1) := by decide +kernel
theorem d_MD_forth_153 : decode prog_20_method_28_code 153 = .ok (.getfield 118, 3) := by decide +kernel
theorem d_MD_forth_156 : decode prog_20_method_28_code 156 = .ok (.iconst 1, 1) := by decide +kernel
theorem d_MD_forth_157 : decode prog_20_method_28_code 157 = .ok (.if_icmp .ne 11, 3) := by decide +kernel
theorem d_MD_forth_160 : decode prog_20_method_28_code 160 = .ok (.aload_n 0, 1) := by decide +kernel
theorem d_MD_forth_161 : decode prog_20_method_28_code 161 = .ok (.iload 9, 2) := by decide +kernel
theorem d_MD_forth_163 : decode prog_20_method_28_code 163 = .ok (.iload 8, 2) := by decide +kernel
theorem d_MD_forth_165 : decode prog_20_method_28_code 165 = .ok (.invokevirtual 173, 3) := by decide +kernel
theorem d_MD_forth_168 : decode prog_20_method_28_code 168 = .ok (.aload_n 0, 1) := by decide +kernel
theorem d_MD_forth_169 : decode prog_20_method_28_code 169 = .ok (.getfield 68, 3) := by decide +kernel
theorem d_MD_forth_172 : decode prog_20_method_28_code 172 = .ok (.iload 9, 2) := by decide +kernel
theorem d_MD_forth_174 : decode prog_20_method_28_code 174 = .ok (.aload_n 0, 1) := by decide +kernel
theorem d_MD_forth_175 : decode prog_20_method_28_code 175 = .ok (.getfield 118, 3) := by decide +kernel
theorem d_MD_forth_178 : decode prog_20_method_28_code 178 = .ok (.iconst 2, 1) := by decide +kernel
theorem d_MD_forth_179 : decode prog_20_method_28_code 179 = .ok (.if_icmp .ne 22, 3) := by decide +kernel
theorem d_MD_forth_182 : decode prog_20_method_28_code 182 = .ok (.aload_n 0, 1) := by decide +kernel
theorem d_MD_forth_183 : decode prog_20_method_28_code 183 = .ok (.iconst 3, 1) := by decide +kernel
theorem d_MD_forth_184 : decode prog_20_method_28_code 184 = .ok (.aload_n 0, 1) := by decide +kernel
theorem d_MD_forth_185 : decode prog_20_method_28_code 185 = .ok (.getfield 68, 3) := by decide +kernel
theorem d_MD_forth_188 : decode prog_20_method_28_code 188 = .ok (.iload 9, 2) := by decide +kernel
theorem d_MD_forth_190 : decode prog_20_method_28_code 190 = .ok (.iaload, 1) := by decide +kernel
theorem d_MD_forth_191 : decode prog_20_method_28_code 191 = .ok (.iconst 0, 1) := by decide +kernel
theorem d_MD_forth_192 : decode prog_20_method_28_code 192 = .ok (.iconst 0, 1) := by decide +kernel
theorem d_MD_forth_193 : decode prog_20_method_28_code 193 = .ok (.iconst 0, 1) := by decide +kernel
theorem d_MD_forth_194 : decode prog_20_method_28_code 194 = .ok (.iconst 0, 1) := by decide +kernel
theorem d_MD_forth_195 : decode prog_20_method_28_code 195 = .ok (.invokevirtual 124, 3) := by decide +kernel
theorem d_MD_forth_198 : decode prog_20_method_28_code 198 = .ok (.goto 4, 3) := by decide +kernel
theorem d_MD_forth_201 : decode prog_20_method_28_code 201 = .ok (.iconst 0, 1) := by decide +kernel
theorem d_MD_forth_202 : decode prog_20_method_28_code 202 = .ok (.iastore, 1) := by decide +kernel
theorem d_MD_forth_203 : decode prog_20_method_28_code 203 = .ok (.goto 105, 3) := by decide +kernel
theorem d_MD_forth_206 : decode prog_20_method_28_code 206 = .ok (.aload_n 0, 1) := by decide +kernel
theorem d_MD_forth_207 : decode prog_20_method_28_code 207 = .ok (.iload 9, 2) := by decide +kernel
theorem d_MD_forth_209 : decode prog_20_method_28_code 209 = .ok (.iload 5, 2) := by decide +kernel
theorem d_MD_forth_211 : decode prog_20_method_28_code 211 = .ok (.iload 6, 2) := by decide +kernel
theorem d_MD_forth_213 : decode prog_20_method_28_code 213 = .ok (.iload 7, 2) := by decide +kernel
theorem d_MD_forth_215 : decode prog_20_method_28_code 215 = .ok (.invokevirtual 176, 3) := by decide +kernel
theorem d_MD_forth_218 : decode prog_20_method_28_code 218 = .ok (.goto 90, 3) := by decide +kernel
theorem d_MD_forth_221 : decode prog_20_method_28_code 221 = .ok (.aload_n 0, 1) := by decide +kernel
theorem d_MD_forth_222 : decode prog_20_method_28_code 222 = .ok (.iload 9, 2) := by decide +kernel
theorem d_MD_forth_224 : decode prog_20_method_28_code 224 = .ok (.iload 4, 2) := by decide +kernel
theorem d_MD_forth_226 : decode prog_20_method_28_code 226 = .ok (.iload 6, 2) := by decide +kernel
theorem d_MD_forth_228 : decode prog_20_method_28_code 228 = .ok (.iload 7, 2) := by decide +kernel
theorem d_MD_forth_230 : decode prog_20_method_28_code 230 = .ok (.iconst 1, 1) := by decide +kernel
theorem d_MD_forth_231 : decode prog_20_method_28_code 231 = .ok (.iload 8, 2) := by decide +kernel
theorem d_MD_forth_233 : decode prog_20_method_28_code 233 = .ok (.iload_n 3, 1) := by decide +kernel
theorem d_MD_forth_234 : decode prog_20_method_28_code 234 = .ok (.invokevirtual 180, 3) := by decide +kernel
theorem d_MD_forth_237 : decode prog_20_method_28_code 237 = .ok (.aload_n 0, 1) := by decide +kernel
theorem d_MD_forth_238 : decode prog_20_method_28_code 238 = .ok (.getfield 59, 3) := by decide +kernel
theorem d_MD_forth_241 : decode prog_20_method_28_code 241 = .ok (.iload 9, 2) := by decide +kernel
theorem d_MD_forth_243 : decode prog_20_method_28_code 243 = .ok (.iload 6, 2) := by decide +kernel
theorem d_MD_forth_245 : decode prog_20_method_28_code 245 = .ok (.i2l, 1) := by decide +kernel
theorem d_MD_forth_246 : decode prog_20_method_28_code 246 = .ok (.aload_n 0, 1) := by decide +kernel
theorem d_MD_forth_247 : decode prog_20_method_28_code 247 = .ok (.getfield 59, 3) := by decide +kernel
theorem d_MD_forth_250 : decode prog_20_method_28_code 250 = .ok (.iload 9, 2) := by decide +kernel
theorem d_MD_forth_252 : decode prog_20_method_28_code 252 = .ok (.iaload, 1) := by decide +kernel
theorem d_MD_forth_253 : decode prog_20_method_28_code 253 = .ok (.i2l, 1) := by decide +kernel
theorem d_MD_forth_254 : decode prog_20_method_28_code 254 = .ok (.lmul, 1) := by decide +kernel
theorem d_MD_forth_255 : decode prog_20_method_28_code 255 = .ok (.iload 7, 2) := by decide +kernel
theorem d_MD_forth_257 : decode prog_20_method_28_code 257 = .ok (.i2l, 1) := by decide +kernel
theorem d_MD_forth_258 : decode prog_20_method_28_code 258 = .ok (.invokestatic 184, 3) := by decide +kernel
theorem d_MD_forth_261 : decode prog_20_method_28_code 261 = .ok (.l2i, 1) := by decide +kernel
theorem d_MD_forth_262 : decode prog_20_method_28_code 262 = .ok (.iastore, 1) := by decide +kernel
theorem d_MD_forth_263 : decode prog_20_method_28_code 263 = .ok (.aload_n 0, 1) := by decide +kernel
theorem d_MD_forth_264 : decode prog_20_method_28_code 264 = .ok (.getfield 62, 3) := by decide +kernel
theorem d_MD_forth_267 : decode prog_20_method_28_code 267 = .ok (.iload 9, 2) := by decide +kernel
theorem d_MD_forth_269 : decode prog_20_method_28_code 269 = .ok (.iload 6, 2) := by decide +kernel
theorem d_MD_forth_271 : decode prog_20_method_28_code 271 = .ok (.i2l, 1) := by decide +kernel
theorem d_MD_forth_272 : decode prog_20_method_28_code 272 = .ok (.aload_n 0, 1) := by decide +kernel
theorem d_MD_forth_273 : decode prog_20_method_28_code 273 = .ok (.getfield 62, 3) := by decide +kernel
theorem d_MD_forth_276 : decode prog_20_method_28_code 276 = .ok (.iload 9, 2) := by decide +kernel
theorem d_MD_forth_278 : decode prog_20_method_28_code 278 = .ok (.iaload, 1) := by decide +kernel
theorem d_MD_forth_279 : decode prog_20_method_28_code 279 = .ok (.i2l, 1) := by decide +kernel
theorem d_MD_forth_280 : decode prog_20_method_28_code 280 = .ok (.lmul, 1) := by decide +kernel
theorem d_MD_forth_281 : decode prog_20_method_28_code 281 = .ok (.iload 7, 2) := by decide +kernel
theorem d_MD_forth_283 : decode prog_20_method_28_code 283 = .ok (.i2l, 1) := by decide +kernel
theorem d_MD_forth_284 : decode prog_20_method_28_code 284 = .ok (.invokestatic 184, 3) := by decide +kernel
theorem d_MD_forth_287 : decode prog_20_method_28_code 287 = .ok (.l2i, 1) := by decide +kernel
theorem d_MD_forth_288 : decode prog_20_method_28_code 288 = .ok (.iastore, 1) := by decide +kernel
theorem d_MD_forth_289 : decode prog_20_method_28_code 289 = .ok (.goto 19, 3) := by decide +kernel
theorem d_MD_forth_292 : decode prog_20_method_28_code 292 = .ok (.aload_n 0, 1) := by decide +kernel
theorem d_MD_forth_293 : decode prog_20_method_28_code 293 = .ok (.iload 9, 2) := by decide +kernel
theorem d_MD_forth_295 : decode prog_20_method_28_code 295 = .ok (.iload 4, 2) := by decide +kernel
theorem d_MD_forth_297 : decode prog_20_method_28_code 297 = .ok (.iload 6, 2) := by decide +kernel
theorem d_MD_forth_299 : decode prog_20_method_28_code 299 = .ok (.iload 7, 2) := by decide +kernel
theorem d_MD_forth_301 : decode prog_20_method_28_code 301 = .ok (.iconst 1, 1) := by decide +kernel
theorem d_MD_forth_302 : decode prog_20_method_28_code 302 = .ok (.iload 8, 2) := by decide +kernel
theorem d_MD_forth_304 : decode prog_20_method_28_code 304 = .ok (.iload_n 3, 1) := by decide +kernel
theorem d_MD_forth_305 : decode prog_20_method_28_code 305 = .ok (.invokevirtual 180, 3) := by decide +kernel
theorem d_MD_forth_308 : decode prog_20_method_28_code 308 = .ok (.return_, 1) := by decide +kernel
theorem d_MD_back_0 : decode prog_20_method_29_code 0 = .ok (.aload_n 0, 1) := by decide +kernel
theorem d_MD_back_1 : decode prog_20_method_29_code 1 = .ok (.iload_n 1, 1) := by decide +kernel
theorem d_MD_back_2 : decode prog_20_method_29_code 2 = .ok (.iload_n 2, 1) := by decide +kernel
theorem d_MD_back_3 : decode prog_20_method_29_code 3 = .ok (.invokevirtual 157, 3) := by decide +kernel
theorem d_MD_back_6 : decode prog_20_method_29_code 6 = .ok (.istore_n 3, 1) := by decide +kernel
theorem d_MD_back_7 : decode prog_20_method_29_code 7 = .ok (.aload_n 0, 1) := by decide +kernel
theorem d_MD_back_8 : decode prog_20_method_29_code 8 = .ok (.getfield 38, 3) := by decide +kernel
theorem d_MD_back_11 : decode prog_20_method_29_code 11 = .ok (.iload_n 3, 1) := by decide +kernel
theorem d_MD_back_12 : decode prog_20_method_29_code 12 = .ok (.iaload, 1) := by decide +kernel
theorem d_MD_back_13 : decode prog_20_method_29_code 13 = .ok (.istore 4, 2) := by decide +kernel
theorem d_MD_back_15 : decode prog_20_method_29_code 15 = .ok (.aload_n 0, 1) := by decide +kernel
theorem d_MD_back_16 : decode prog_20_method_29_code 16 = .ok (.getfield 38, 3) := by decide +kernel
theorem d_MD_back_19 : decode prog_20_method_29_code 19 = .ok (.iload_n 3, 1) := by decide +kernel
theorem d_MD_back_20 : decode prog_20_method_29_code 20 = .ok (.iconst 1, 1) := by decide +kernel
theorem d_MD_back_21 : decode prog_20_method_29_code 21 = .ok (.iadd, 1) := by decide +kernel
theorem d_MD_back_22 : decode prog_20_method_29_code 22 = .ok (.iaload, 1) := by decide +kernel
theorem d_MD_back_23 : decode prog_20_method_29_code 23 = .ok (.istore 5, 2) := by decide +kernel
theorem d_MD_back_25 : decode prog_20_method_29_code 25 = .ok (.aload_n 0, 1) := by decide +kernel
theorem d_MD_back_26 : decode prog_20_method_29_code 26 = .ok (.getfield 38, 3) := by decide +kernel
theorem d_MD_back_29 : decode prog_20_method_29_code 29 = .ok (.iload_n 3, 1) := by decide +kernel
theorem d_MD_back_30 : decode prog_20_method_29_code 30 = .ok (.iconst 2, 1) := by decide +kernel
theorem d_MD_back_31 : decode prog_20_method_29_code 31 = .ok (.iadd, 1) := by decide +kernel
theorem d_MD_back_32 : decode prog_20_method_29_code 32 = .ok (.iaload, 1) := by decide +kernel
theorem d_MD_back_33 : decode prog_20_method_29_code 33 = .ok (.istore 6, 2) := by decide +kernel
theorem d_MD_back_35 : decode prog_20_method_29_code 35 = .ok (.aload_n 0, 1) := by decide +kernel
theorem d_MD_back_36 : decode prog_20_method_29_code 36 = .ok (.getfield 38, 3) := by decide +kernel
theorem d_MD_back_39 : decode prog_20_method_29_code 39 = .ok (.iload_n 3, 1) := by decide +kernel
theorem d_MD_back_40 : decode prog_20_method_29_code 40 = .ok (.iconst 3, 1) := by decide +kernel
theorem d_MD_back_41 : decode prog_20_method_29_code 41 = .ok (.iadd, 1) := by decide +kernel
theorem d_MD_back_42 : decode prog_20_method_29_code 42 = .ok (.iaload, 1) := by decide +kernel
theorem d_MD_back_43 : decode prog_20_method_29_code 43 = .ok (.istore 7, 2) := by decide +kernel
theorem d_MD_back_45 : decode prog_20_method_29_code 45 = .ok (.bipush 8, 2) := by decide +kernel
theorem d_MD_back_47 : decode prog_20_method_29_code 47 = .ok (.iload_n 1, 1) := by decide +kernel
theorem d_MD_back_48 : decode prog_20_method_29_code 48 = .ok (.imul, 1) := by decide +kernel
theorem d_MD_back_49 : decode prog_20_method_29_code 49 = .ok (.iload_n 2, 1) := by decide +kernel
theorem d_MD_back_50 : decode prog_20_method_29_code 50 = .ok (.iadd, 1) := by decide +kernel
theorem d_MD_back_51 : decode prog_20_method_29_code 51 = .ok (.istore 8, 2) := by decide +kernel
theorem d_MD_back_53 : decode prog_20_method_29_code 53 = .ok (.aload_n 0, 1) := by decide +kernel
theorem d_MD_back_54 : decode prog_20_method_29_code 54 = .ok (.iload 5, 2) := by decide +kernel
theorem d_MD_back_56 : decode prog_20_method_29_code 56 = .ok (.invokevirtual 111, 3) := by decide +kernel
theorem d_MD_back_59 : decode prog_20_method_29_code 59 = .ok (.istore 9, 2) := by decide +kernel
theorem d_MD_back_61 : decode prog_20_method_29_code 61 = .ok (.iload 4, 2) := by decide +kernel
theorem d_MD_back_63 : decode prog_20_method_29_code 63 = .ok (.tableswitch 207 0 6 #[41, 60, 71, 81, 41, 133, 156], 41) := by decide +kernel
theorem d_MD_back_104 : decode prog_20_method_29_code 104 = .ok (.aload_n 0, 1) := by decide +kernel
theorem d_MD_back_105 : decode prog_20_method_29_code 105 = .ok (.aload_n 0, 1) := by decide +kernel
theorem d_MD_back_106 : decode prog_20_method_29_code 106 = .ok (.iload 4, 2) := by decide +kernel
theorem d_MD_back_108 : decode prog_20_method_29_code 108 = .ok (.iload 5, 2) := by decide +kernel
theorem d_MD_back_110 : decode prog_20_method_29_code 110 = .ok (.iload 6, 2) := by decide +kernel
theorem d_MD_back_112 : decode prog_20_method_29_code 112 = .ok (.invokevirtual 160, 3) := by decide +kernel
theorem d_MD_back_115 : decode prog_20_method_29_code 115 = .ok (.iload 5, 2) := by decide +kernel
theorem d_MD_back_117 : decode prog_20_method_29_code 117 = .ok (.invokevirtual 163, 3) := by decide +kernel
theorem d_MD_back_120 : decode prog_20_method_29_code 120 = .ok (.goto 166, 3) := by decide +kernel
theorem d_MD_back_123 : decode prog_20_method_29_code 123 = .ok (.aload_n 0, 1) := by decide +kernel
theorem d_MD_back_124 : decode prog_20_method_29_code 124 = .ok (.iload 5, 2) := by decide +kernel
theorem d_MD_back_126 : decode prog_20_method_29_code 126 = .ok (.iload 8, 2) := by decide +kernel
theorem d_MD_back_128 : decode prog_20_method_29_code 128 = .ok (.invokevirtual 170, 3) := by decide +kernel
theorem d_MD_back_131 : decode prog_20_method_29_code 131 = .ok (.goto 155, 3) := by decide +kernel
theorem d_MD_back_134 : decode prog_20_method_29_code 134 = .ok (.aload_n 0, 1) := by decide +kernel
theorem d_MD_back_135 : decode prog_20_method_29_code 135 = .ok (.iload_n 3, 1) := by decide +kernel
theorem d_MD_back_136 : decode prog_20_method_29_code 136 = .ok (.iload 8, 2) := by decide +kernel
theorem d_MD_back_138 : decode prog_20_method_29_code 138 = .ok (.invokevirtual 167, 3) := by decide +kernel
theorem d_MD_back_141 : decode prog_20_method_29_code 141 = .ok (.goto 145, 3) := by decide +kernel
theorem d_MD_back_144 : decode prog_20_method_29_code 144 = .ok (.aload_n 0, 1) := by decide +kernel
theorem d_MD_back_145 : decode prog_20_method_29_code 145 = .ok (.getfield 56, 3) := by decide +kernel
theorem d_MD_back_148 : decode prog_20_method_29_code 148 = .ok (.iload 9, 2) := by decide +kernel
theorem d_MD_back_150 : decode prog_20_method_29_code 150 = .ok (.iconst 0, 1) := by decide +kernel
theorem d_MD_back_151 : decode prog_20_method_29_code 151 = .ok (.iastore, 1) := by decide +kernel
theorem d_MD_back_152 : decode prog_20_method_29_code 152 = .ok (.aload_n 0, 1) := by decide +kernel
theorem d_MD_back_153 : decode prog_20_method_29_code 153 = .ok (.getfield 118, 3) := by decide +kernel
theorem d_MD_back_156 : decode prog_20_method_29_code 156 = .ok (.iconst 1, 1) := by decide +kernel
theorem d_MD_back_157 : decode prog_20_method_29_code 157 = .ok (.if_icmp .ne 11, 3) := by decide +kernel
theorem d_MD_back_160 : decode prog_20_method_29_code 160 = .ok (.aload_n 0, 1) := by decide +kernel
theorem d_MD_back_161 : decode prog_20_method_29_code 161 = .ok (.iload 9, 2) := by decide +kernel
theorem d_MD_back_163 : decode prog_20_method_29_code 163 = .ok (.iload 8, 2) := by decide +kernel
theorem d_MD_back_165 : decode prog_20_method_29_code 165 = .ok (.invokevirtual 188, 3) := by decide +kernel
theorem d_MD_back_168 : decode prog_20_method_29_code 168 = .ok (.aload_n 0, 1) := by decide +kernel
theorem d_MD_back_169 : decode prog_20_method_29_code 169 = .ok (.getfield 68, 3) := by decide +kernel
theorem d_MD_back_172 : decode prog_20_method_29_code 172 = .ok (.iload 9, 2) := by decide +kernel
theorem d_MD_back_174 : decode prog_20_method_29_code 174 = .ok (.aload_n 0, 1) := by decide +kernel
theorem d_MD_back_175 : decode prog_20_method_29_code 175 = .ok (.getfield 118, 3) := by decide +kernel
theorem d_MD_back_178 : decode prog_20_method_29_code 178 = .ok (.iconst 2, 1) := by decide +kernel
theorem d_MD_back_179 : decode prog_20_method_29_code 179 = .ok (.if_icmp .ne 12, 3) := by decide +kernel
theorem d_MD_back_182 : decode prog_20_method_29_code 182 = .ok (.aload_n 0, 1) := by decide +kernel
theorem d_MD_back_183 : decode prog_20_method_29_code 183 = .ok (.iload 9, 2) := by decide +kernel
theorem d_MD_back_185 : decode prog_20_method_29_code 185 = .ok (.invokevirtual 191, 3) := by decide +kernel
theorem d_MD_back_188 : decode prog_20_method_29_code 188 = .ok (.goto 4, 3) := by decide +kernel
theorem d_MD_back_191 : decode prog_20_method_29_code 191 = .ok (.iconst 0, 1) := by decide +kernel
theorem d_MD_back_192 : decode prog_20_method_29_code 192 = .ok (.iastore, 1) := by decide +kernel
theorem d_MD_back_193 : decode prog_20_method_29_code 193 = .ok (.goto 93, 3) := by decide +kernel
theorem d_MD_back_196 : decode prog_20_method_29_code 196 = .ok (.aload_n 0, 1) := by decide +kernel
theorem d_MD_back_197 : decode prog_20_method_29_code 197 = .ok (.iload 9, 2) := by decide +kernel
theorem d_MD_back_199 : decode prog_20_method_29_code 199 = .ok (.aload_n 0, 1) := by decide +kernel
theorem d_MD_back_200 : decode prog_20_method_29_code 200 = .ok (.iload 5, 2) := by decide +kernel
theorem d_MD_back_202 : decode prog_20_method_29_code 202 = .ok (.iload 7, 2) := by decide +kernel
theorem d_MD_back_204 : decode prog_20_method_29_code 204 = .ok (.invokestatic 194, 3) := by decide +kernel
theorem d_MD_back_207 : decode prog_20_method_29_code 207 = .ok (.invokevirtual 111, 3) := by decide +kernel
theorem d_MD_back_210 : decode prog_20_method_29_code 210 = .ok (.iload 6, 2) := by decide +kernel
theorem d_MD_back_212 : decode prog_20_method_29_code 212 = .ok (.iload_n 3, 1) := by decide +kernel
theorem d_MD_back_213 : decode prog_20_method_29_code 213 = .ok (.invokevirtual 197, 3) := by decide +kernel
theorem d_MD_back_216 : decode prog_20_method_29_code 216 = .ok (.goto 70, 3) := by decide +kernel
theorem d_MD_back_219 : decode prog_20_method_29_code 219 = .ok (.aload_n 0, 1) := by decide +kernel
theorem d_MD_back_220 : decode prog_20_method_29_code 220 = .ok (.getfield 59, 3) := by decide +kernel
theorem d_MD_back_223 : decode prog_20_method_29_code 223 = .ok (.iload 9, 2) := by decide +kernel
theorem d_MD_back_225 : decode prog_20_method_29_code 225 = .ok (.aload_n 0, 1) := by decide +kernel
theorem d_MD_back_226 : decode prog_20_method_29_code 226 = .ok (.getfield 38, 3) := by decide +kernel
theorem d_MD_back_229 : decode prog_20_method_29_code 229 = .ok (.iload_n 3, 1) := by decide +kernel
theorem d_MD_back_230 : decode prog_20_method_29_code 230 = .ok (.bipush 6, 2) := by decide +kernel
theorem d_MD_back_232 : decode prog_20_method_29_code 232 = .ok (.iadd, 1) := by decide +kernel
theorem d_MD_back_233 : decode prog_20_method_29_code 233 = .ok (.iaload, 1) := by decide +kernel
theorem d_MD_back_234 : decode prog_20_method_29_code 234 = .ok (.iastore, 1) := by decide +kernel
theorem d_MD_back_235 : decode prog_20_method_29_code 235 = .ok (.aload_n 0, 1) := by decide +kernel
theorem d_MD_back_236 : decode prog_20_method_29_code 236 = .ok (.getfield 62, 3) := by decide +kernel
theorem d_MD_back_239 : decode prog_20_method_29_code 239 = .ok (.iload 9, 2) := by decide +kernel
theorem d_MD_back_241 : decode prog_20_method_29_code 241 = .ok (.aload_n 0, 1) := by decide +kernel
theorem d_MD_back_242 : decode prog_20_method_29_code 242 = .ok (.getfield 38, 3) := by decide +kernel
theorem d_MD_back_245 : decode prog_20_method_29_code 245 = .ok (.iload_n 3, 1) := by decide +kernel
theorem d_MD_back_246 : decode prog_20_method_29_code 246 = .ok (.bipush 7, 2) := by decide +kernel
theorem d_MD_back_248 : decode prog_20_method_29_code 248 = .ok (.iadd, 1) := by decide +kernel
theorem d_MD_back_249 : decode prog_20_method_29_code 249 = .ok (.iaload, 1) := by decide +kernel
theorem d_MD_back_250 : decode prog_20_method_29_code 250 = .ok (.iastore, 1) := by decide +kernel
theorem d_MD_back_251 : decode prog_20_method_29_code 251 = .ok (.aload_n 0, 1) := by decide +kernel
theorem d_MD_back_252 : decode prog_20_method_29_code 252 = .ok (.iload 9, 2) := by decide +kernel
theorem d_MD_back_254 : decode prog_20_method_29_code 254 = .ok (.iload 4, 2) := by decide +kernel
theorem d_MD_back_256 : decode prog_20_method_29_code 256 = .ok (.iload 6, 2) := by decide +kernel
theorem d_MD_back_258 : decode prog_20_method_29_code 258 = .ok (.iload 7, 2) := by decide +kernel
theorem d_MD_back_260 : decode prog_20_method_29_code 260 = .ok (.iconst 0, 1) := by decide +kernel
theorem d_MD_back_261 : decode prog_20_method_29_code 261 = .ok (.iload 8, 2) := by decide +kernel
theorem d_MD_back_263 : decode prog_20_method_29_code 263 = .ok (.iload_n 3, 1) := by decide +kernel
theorem d_MD_back_264 : decode prog_20_method_29_code 264 = .ok (.invokevirtual 180, 3) := by decide +kernel
theorem d_MD_back_267 : decode prog_20_method_29_code 267 = .ok (.goto 19, 3) := by decide +kernel
theorem d_MD_back_270 : decode prog_20_method_29_code 270 = .ok (.aload_n 0, 1) := by decide +kernel
theorem d_MD_back_271 : decode prog_20_method_29_code 271 = .ok (.iload 9, 2) := by decide +kernel
theorem d_MD_back_273 : decode prog_20_method_29_code 273 = .ok (.iload 4, 2) := by decide +kernel
theorem d_MD_back_275 : decode prog_20_method_29_code 275 = .ok (.iload 6, 2) := by decide +kernel
theorem d_MD_back_277 : decode prog_20_method_29_code 277 = .ok (.iload 7, 2) := by decide +kernel
theorem d_MD_back_279 : decode prog_20_method_29_code 279 = .ok (.iconst 0, 1) := by decide +kernel
theorem d_MD_back_280 : decode prog_20_method_29_code 280 = .ok (.iload 8, 2) := by decide +kernel
theorem d_MD_back_282 : decode prog_20_method_29_code 282 = .ok (.iload_n 3, 1) := by decide +kernel
theorem d_MD_back_283 : decode prog_20_method_29_code 283 = .ok (.invokevirtual 180, 3) := by decide +kernel
theorem d_MD_back_286 : decode prog_20_method_29_code 286 = .ok (.return_, 1) := by decide +kernel
theorem d_MD_arrive_0 : decode prog_20_method_30_code 0 = .ok (.aload_n 0, 1) := by decide +kernel
theorem d_MD_arrive_1 : decode prog_20_method_30_code 1 = .ok (.aload_n 0, 1) := by decide +kernel
theorem d_MD_arrive_2 : decode prog_20_method_30_code 2 = .ok (.getfield 38, 3) := by decide +kernel
theorem d_MD_arrive_5 : decode prog_20_method_30_code 5 = .ok (.iload_n 1, 1) := by decide +kernel
theorem d_MD_arrive_6 : decode prog_20_method_30_code 6 = .ok (.iconst 1, 1) := by decide +kernel
theorem d_MD_arrive_7 : decode prog_20_method_30_code 7 = .ok (.iadd, 1) := by decide +kernel
theorem d_MD_arrive_8 : decode prog_20_method_30_code 8 = .ok (.iaload, 1) := by decide +kernel
theorem d_MD_arrive_9 : decode prog_20_method_30_code 9 = .ok (.aload_n 0, 1) := by decide +kernel
theorem d_MD_arrive_10 : decode prog_20_method_30_code 10 = .ok (.getfield 38, 3) := by decide +kernel
theorem d_MD_arrive_13 : decode prog_20_method_30_code 13 = .ok (.iload_n 1, 1) := by decide +kernel
theorem d_MD_arrive_14 : decode prog_20_method_30_code 14 = .ok (.iconst 5, 1) := by decide +kernel
theorem d_MD_arrive_15 : decode prog_20_method_30_code 15 = .ok (.iadd, 1) := by decide +kernel
theorem d_MD_arrive_16 : decode prog_20_method_30_code 16 = .ok (.iaload, 1) := by decide +kernel
theorem d_MD_arrive_17 : decode prog_20_method_30_code 17 = .ok (.aload_n 0, 1) := by decide +kernel
theorem d_MD_arrive_18 : decode prog_20_method_30_code 18 = .ok (.getfield 38, 3) := by decide +kernel
theorem d_MD_arrive_21 : decode prog_20_method_30_code 21 = .ok (.iload_n 1, 1) := by decide +kernel
theorem d_MD_arrive_22 : decode prog_20_method_30_code 22 = .ok (.bipush 6, 2) := by decide +kernel
theorem d_MD_arrive_24 : decode prog_20_method_30_code 24 = .ok (.iadd, 1) := by decide +kernel
theorem d_MD_arrive_25 : decode prog_20_method_30_code 25 = .ok (.iaload, 1) := by decide +kernel
theorem d_MD_arrive_26 : decode prog_20_method_30_code 26 = .ok (.aload_n 0, 1) := by decide +kernel
theorem d_MD_arrive_27 : decode prog_20_method_30_code 27 = .ok (.getfield 38, 3) := by decide +kernel
theorem d_MD_arrive_30 : decode prog_20_method_30_code 30 = .ok (.iload_n 1, 1) := by decide +kernel
theorem d_MD_arrive_31 : decode prog_20_method_30_code 31 = .ok (.bipush 7, 2) := by decide +kernel
theorem d_MD_arrive_33 : decode prog_20_method_30_code 33 = .ok (.iadd, 1) := by decide +kernel
theorem d_MD_arrive_34 : decode prog_20_method_30_code 34 = .ok (.iaload, 1) := by decide +kernel
theorem d_MD_arrive_35 : decode prog_20_method_30_code 35 = .ok (.invokevirtual 139, 3) := by decide +kernel
theorem d_MD_arrive_38 : decode prog_20_method_30_code 38 = .ok (.istore_n 3, 1) := by decide +kernel
theorem d_MD_arrive_39 : decode prog_20_method_30_code 39 = .ok (.aload_n 0, 1) := by decide +kernel
theorem d_MD_arrive_40 : decode prog_20_method_30_code 40 = .ok (.getfield 118, 3) := by decide +kernel
theorem d_MD_arrive_43 : decode prog_20_method_30_code 43 = .ok (.iconst 1, 1) := by decide +kernel
theorem d_MD_arrive_44 : decode prog_20_method_30_code 44 = .ok (.if_icmp .ne 39, 3) := by decide +kernel
theorem d_MD_arrive_47 : decode prog_20_method_30_code 47 = .ok (.aload_n 0, 1) := by decide +kernel
theorem d_MD_arrive_48 : decode prog_20_method_30_code 48 = .ok (.getfield 71, 3) := by decide +kernel
theorem d_MD_arrive_51 : decode prog_20_method_30_code 51 = .ok (.iload_n 2, 1) := by decide +kernel
theorem d_MD_arrive_52 : decode prog_20_method_30_code 52 = .ok (.iaload, 1) := by decide +kernel
theorem d_MD_arrive_53 : decode prog_20_method_30_code 53 = .ok (.iconst 1, 1) := by decide +kernel
theorem d_MD_arrive_54 : decode prog_20_method_30_code 54 = .ok (.if_icmp .ne 22, 3) := by decide +kernel
theorem d_MD_arrive_57 : decode prog_20_method_30_code 57 = .ok (.aload_n 0, 1) := by decide +kernel
theorem d_MD_arrive_58 : decode prog_20_method_30_code 58 = .ok (.getfield 74, 3) := by decide +kernel
theorem d_MD_arrive_61 : decode prog_20_method_30_code 61 = .ok (.bipush 14, 2) := by decide +kernel
theorem d_MD_arrive_63 : decode prog_20_method_30_code 63 = .ok (.iload_n 2, 1) := by decide +kernel
theorem d_MD_arrive_64 : decode prog_20_method_30_code 64 = .ok (.imul, 1) := by decide +kernel
theorem d_MD_arrive_65 : decode prog_20_method_30_code 65 = .ok (.aload_n 0, 1) := by decide +kernel
theorem d_MD_arrive_66 : decode prog_20_method_30_code 66 = .ok (.getfield 65, 3) := by decide +kernel
theorem d_MD_arrive_69 : decode prog_20_method_30_code 69 = .ok (.bipush 7, 2) := by decide +kernel
theorem d_MD_arrive_71 : decode prog_20_method_30_code 71 = .ok (.iload_n 3, 1) := by decide +kernel
theorem d_MD_arrive_72 : decode prog_20_method_30_code 72 = .ok (.imul, 1) := by decide +kernel
theorem d_MD_arrive_73 : decode prog_20_method_30_code 73 = .ok (.invokestatic 128, 3) := by decide +kernel
theorem d_MD_arrive_76 : decode prog_20_method_30_code 76 = .ok (.aload_n 0, 1) := by decide +kernel
theorem d_MD_arrive_77 : decode prog_20_method_30_code 77 = .ok (.getfield 71, 3) := by decide +kernel
theorem d_MD_arrive_80 : decode prog_20_method_30_code 80 = .ok (.iload_n 2, 1) := by decide +kernel
theorem d_MD_arrive_81 : decode prog_20_method_30_code 81 = .ok (.iconst 0, 1) := by decide +kernel
theorem d_MD_arrive_82 : decode prog_20_method_30_code 82 = .ok (.iastore, 1) := by decide +kernel
theorem d_MD_arrive_83 : decode prog_20_method_30_code 83 = .ok (.return_, 1) := by decide +kernel
theorem d_MD_depart_0 : decode prog_20_method_31_code 0 = .ok (.aload_n 0, 1) := by decide +kernel
theorem d_MD_depart_1 : decode prog_20_method_31_code 1 = .ok (.iload_n 1, 1) := by decide +kernel
theorem d_MD_depart_2 : decode prog_20_method_31_code 2 = .ok (.invokevirtual 111, 3) := by decide +kernel
theorem d_MD_depart_5 : decode prog_20_method_31_code 5 = .ok (.istore_n 3, 1) := by decide +kernel
theorem d_MD_depart_6 : decode prog_20_method_31_code 6 = .ok (.aload_n 0, 1) := by decide +kernel
theorem d_MD_depart_7 : decode prog_20_method_31_code 7 = .ok (.getfield 118, 3) := by decide +kernel
theorem d_MD_depart_10 : decode prog_20_method_31_code 10 = .ok (.iconst 1, 1) := by decide +kernel
theorem d_MD_depart_11 : decode prog_20_method_31_code 11 = .ok (.if_icmp .ne 92, 3) := by decide +kernel
theorem d_MD_depart_14 : decode prog_20_method_31_code 14 = .ok (.aload_n 0, 1) := by decide +kernel
theorem d_MD_depart_15 : decode prog_20_method_31_code 15 = .ok (.getfield 71, 3) := by decide +kernel
theorem d_MD_depart_18 : decode prog_20_method_31_code 18 = .ok (.iload_n 2, 1) := by decide +kernel
theorem d_MD_depart_19 : decode prog_20_method_31_code 19 = .ok (.iconst 0, 1) := by decide +kernel
theorem d_MD_depart_20 : decode prog_20_method_31_code 20 = .ok (.iastore, 1) := by decide +kernel
theorem d_MD_depart_21 : decode prog_20_method_31_code 21 = .ok (.aload_n 0, 1) := by decide +kernel
theorem d_MD_depart_22 : decode prog_20_method_31_code 22 = .ok (.getfield 56, 3) := by decide +kernel
theorem d_MD_depart_25 : decode prog_20_method_31_code 25 = .ok (.iload_n 3, 1) := by decide +kernel
theorem d_MD_depart_26 : decode prog_20_method_31_code 26 = .ok (.iaload, 1) := by decide +kernel
theorem d_MD_depart_27 : decode prog_20_method_31_code 27 = .ok (.iconst 2, 1) := by decide +kernel
theorem d_MD_depart_28 : decode prog_20_method_31_code 28 = .ok (.if_icmp .eq 57, 3) := by decide +kernel
theorem d_MD_depart_31 : decode prog_20_method_31_code 31 = .ok (.aload_n 0, 1) := by decide +kernel
theorem d_MD_depart_32 : decode prog_20_method_31_code 32 = .ok (.getfield 56, 3) := by decide +kernel
theorem d_MD_depart_35 : decode prog_20_method_31_code 35 = .ok (.iload_n 3, 1) := by decide +kernel
theorem d_MD_depart_36 : decode prog_20_method_31_code 36 = .ok (.iaload, 1) := by decide +kernel
theorem d_MD_depart_37 : decode prog_20_method_31_code 37 = .ok (.iconst 1, 1) := by decide +kernel
theorem d_MD_depart_38 : decode prog_20_method_31_code 38 = .ok (.if_icmp .ne 18, 3) := by decide +kernel
theorem d_MD_depart_41 : decode prog_20_method_31_code 41 = .ok (.aload_n 0, 1) := by decide +kernel
theorem d_MD_depart_42 : decode prog_20_method_31_code 42 = .ok (.getfield 65, 3) := by decide +kernel
theorem d_MD_depart_45 : decode prog_20_method_31_code 45 = .ok (.bipush 7, 2) := by decide +kernel
theorem d_MD_depart_47 : decode prog_20_method_31_code 47 = .ok (.iload_n 3, 1) := by decide +kernel
theorem d_MD_depart_48 : decode prog_20_method_31_code 48 = .ok (.imul, 1) := by decide +kernel
theorem d_MD_depart_49 : decode prog_20_method_31_code 49 = .ok (.iaload, 1) := by decide +kernel
theorem d_MD_depart_50 : decode prog_20_method_31_code 50 = .ok (.ifCond .ne 39, 3) := by decide +kernel
theorem d_MD_depart_53 : decode prog_20_method_31_code 53 = .ok (.goto 32, 3) := by decide +kernel
theorem d_MD_depart_56 : decode prog_20_method_31_code 56 = .ok (.aload_n 0, 1) := by decide +kernel
theorem d_MD_depart_57 : decode prog_20_method_31_code 57 = .ok (.getfield 65, 3) := by decide +kernel
theorem d_MD_depart_60 : decode prog_20_method_31_code 60 = .ok (.bipush 7, 2) := by decide +kernel
theorem d_MD_depart_62 : decode prog_20_method_31_code 62 = .ok (.iload_n 3, 1) := by decide +kernel
theorem d_MD_depart_63 : decode prog_20_method_31_code 63 = .ok (.imul, 1) := by decide +kernel
theorem d_MD_depart_64 : decode prog_20_method_31_code 64 = .ok (.iconst 1, 1) := by decide +kernel
theorem d_MD_depart_65 : decode prog_20_method_31_code 65 = .ok (.iadd, 1) := by decide +kernel
theorem d_MD_depart_66 : decode prog_20_method_31_code 66 = .ok (.iaload, 1) := by decide +kernel
theorem d_MD_depart_67 : decode prog_20_method_31_code 67 = .ok (.aload_n 0, 1) := by decide +kernel
theorem d_MD_depart_68 : decode prog_20_method_31_code 68 = .ok (.getfield 59, 3) := by decide +kernel
theorem d_MD_depart_71 : decode prog_20_method_31_code 71 = .ok (.iload_n 3, 1) := by decide +kernel
theorem d_MD_depart_72 : decode prog_20_method_31_code 72 = .ok (.iaload, 1) := by decide +kernel
theorem d_MD_depart_73 : decode prog_20_method_31_code 73 = .ok (.aload_n 0, 1) := by decide +kernel
theorem d_MD_depart_74 : decode prog_20_method_31_code 74 = .ok (.getfield 62, 3) := by decide +kernel
theorem d_MD_depart_77 : decode prog_20_method_31_code 77 = .ok (.iload_n 3, 1) := by decide +kernel
theorem d_MD_depart_78 : decode prog_20_method_31_code 78 = .ok (.iaload, 1) := by decide +kernel
theorem d_MD_depart_79 : decode prog_20_method_31_code 79 = .ok (.invokestatic 115, 3) := by decide +kernel
theorem d_MD_depart_82 : decode prog_20_method_31_code 82 = .ok (.if_icmp .ne 7, 3) := by decide +kernel
theorem d_MD_depart_85 : decode prog_20_method_31_code 85 = .ok (.iconst 1, 1) := by decide +kernel
theorem d_MD_depart_86 : decode prog_20_method_31_code 86 = .ok (.goto 4, 3) := by decide +kernel
theorem d_MD_depart_89 : decode prog_20_method_31_code 89 = .ok (.iconst 0, 1) := by decide +kernel
theorem d_MD_depart_90 : decode prog_20_method_31_code 90 = .ok (.istore 4, 2) := by decide +kernel
theorem d_MD_depart_92 : decode prog_20_method_31_code 92 = .ok (.iload 4, 2) := by decide +kernel
theorem d_MD_depart_94 : decode prog_20_method_31_code 94 = .ok (.ifCond .ne 9, 3) := by decide +kernel
theorem d_MD_depart_97 : decode prog_20_method_31_code 97 = .ok (.aload_n 0, 1) := by decide +kernel
theorem d_MD_depart_98 : decode prog_20_method_31_code 98 = .ok (.iload_n 2, 1) := by decide +kernel
theorem d_MD_depart_99 : decode prog_20_method_31_code 99 = .ok (.iload_n 3, 1) := by decide +kernel
theorem d_MD_depart_100 : decode prog_20_method_31_code 100 = .ok (.invokevirtual 200, 3) := by decide +kernel
theorem d_MD_depart_103 : decode prog_20_method_31_code 103 = .ok (.aload_n 0, 1) := by decide +kernel
theorem d_MD_depart_104 : decode prog_20_method_31_code 104 = .ok (.iload_n 3, 1) := by decide +kernel
theorem d_MD_depart_105 : decode prog_20_method_31_code 105 = .ok (.invokevirtual 203, 3) := by decide +kernel
theorem d_MD_depart_108 : decode prog_20_method_31_code 108 = .ok (.return_, 1) := by decide +kernel
theorem d_MD_keepOne_0 : decode prog_20_method_32_code 0 = .ok (.aload_n 0, 1) := by decide +kernel
theorem d_MD_keepOne_1 : decode prog_20_method_32_code 1 = .ok (.getfield 71, 3) := by decide +kernel
theorem d_MD_keepOne_4 : decode prog_20_method_32_code 4 = .ok (.iload_n 1, 1) := by decide +kernel
theorem d_MD_keepOne_5 : decode prog_20_method_32_code 5 = .ok (.iconst 1, 1) := by decide +kernel
theorem d_MD_keepOne_6 : decode prog_20_method_32_code 6 = .ok (.iastore, 1) := by decide +kernel
theorem d_MD_keepOne_7 : decode prog_20_method_32_code 7 = .ok (.aload_n 0, 1) := by decide +kernel
theorem d_MD_keepOne_8 : decode prog_20_method_32_code 8 = .ok (.getfield 65, 3) := by decide +kernel
theorem d_MD_keepOne_11 : decode prog_20_method_32_code 11 = .ok (.bipush 7, 2) := by decide +kernel
theorem d_MD_keepOne_13 : decode prog_20_method_32_code 13 = .ok (.iload_n 2, 1) := by decide +kernel
theorem d_MD_keepOne_14 : decode prog_20_method_32_code 14 = .ok (.imul, 1) := by decide +kernel
theorem d_MD_keepOne_15 : decode prog_20_method_32_code 15 = .ok (.aload_n 0, 1) := by decide +kernel
theorem d_MD_keepOne_16 : decode prog_20_method_32_code 16 = .ok (.getfield 74, 3) := by decide +kernel
theorem d_MD_keepOne_19 : decode prog_20_method_32_code 19 = .ok (.bipush 14, 2) := by decide +kernel
theorem d_MD_keepOne_21 : decode prog_20_method_32_code 21 = .ok (.iload_n 1, 1) := by decide +kernel
theorem d_MD_keepOne_22 : decode prog_20_method_32_code 22 = .ok (.imul, 1) := by decide +kernel
theorem d_MD_keepOne_23 : decode prog_20_method_32_code 23 = .ok (.invokestatic 128, 3) := by decide +kernel
theorem d_MD_keepOne_26 : decode prog_20_method_32_code 26 = .ok (.return_, 1) := by decide +kernel
theorem d_MD_wrap_0 : decode prog_20_method_33_code 0 = .ok (.aload_n 0, 1) := by decide +kernel
theorem d_MD_wrap_1 : decode prog_20_method_33_code 1 = .ok (.getfield 65, 3) := by decide +kernel
theorem d_MD_wrap_4 : decode prog_20_method_33_code 4 = .ok (.bipush 7, 2) := by decide +kernel
theorem d_MD_wrap_6 : decode prog_20_method_33_code 6 = .ok (.iload_n 1, 1) := by decide +kernel
theorem d_MD_wrap_7 : decode prog_20_method_33_code 7 = .ok (.imul, 1) := by decide +kernel
theorem d_MD_wrap_8 : decode prog_20_method_33_code 8 = .ok (.iconst 1, 1) := by decide +kernel
theorem d_MD_wrap_9 : decode prog_20_method_33_code 9 = .ok (.iadd, 1) := by decide +kernel
theorem d_MD_wrap_10 : decode prog_20_method_33_code 10 = .ok (.iaload, 1) := by decide +kernel
theorem d_MD_wrap_11 : decode prog_20_method_33_code 11 = .ok (.istore_n 3, 1) := by decide +kernel
theorem d_MD_wrap_12 : decode prog_20_method_33_code 12 = .ok (.aload_n 0, 1) := by decide +kernel
theorem d_MD_wrap_13 : decode prog_20_method_33_code 13 = .ok (.getfield 71, 3) := by decide +kernel
theorem d_MD_wrap_16 : decode prog_20_method_33_code 16 = .ok (.iload_n 2, 1) := by decide +kernel
theorem d_MD_wrap_17 : decode prog_20_method_33_code 17 = .ok (.iaload, 1) := by decide +kernel
theorem d_MD_wrap_18 : decode prog_20_method_33_code 18 = .ok (.iconst 1, 1) := by decide +kernel
theorem d_MD_wrap_19 : decode prog_20_method_33_code 19 = .ok (.if_icmp .ne 99, 3) := by decide +kernel
theorem d_MD_wrap_22 : decode prog_20_method_33_code 22 = .ok (.aload_n 0, 1) := by decide +kernel
theorem d_MD_wrap_23 : decode prog_20_method_33_code 23 = .ok (.getfield 74, 3) := by decide +kernel
theorem d_MD_wrap_26 : decode prog_20_method_33_code 26 = .ok (.bipush 14, 2) := by decide +kernel
theorem d_MD_wrap_28 : decode prog_20_method_33_code 28 = .ok (.iload_n 2, 1) := by decide +kernel
theorem d_MD_wrap_29 : decode prog_20_method_33_code 29 = .ok (.imul, 1) := by decide +kernel
theorem d_MD_wrap_30 : decode prog_20_method_33_code 30 = .ok (.aload_n 0, 1) := by decide +kernel
theorem d_MD_wrap_31 : decode prog_20_method_33_code 31 = .ok (.getfield 65, 3) := by decide +kernel
theorem d_MD_wrap_34 : decode prog_20_method_33_code 34 = .ok (.bipush 7, 2) := by decide +kernel
theorem d_MD_wrap_36 : decode prog_20_method_33_code 36 = .ok (.iload_n 1, 1) := by decide +kernel
theorem d_MD_wrap_37 : decode prog_20_method_33_code 37 = .ok (.imul, 1) := by decide +kernel
theorem d_MD_wrap_38 : decode prog_20_method_33_code 38 = .ok (.invokestatic 128, 3) := by decide +kernel
theorem d_MD_wrap_41 : decode prog_20_method_33_code 41 = .ok (.aload_n 0, 1) := by decide +kernel
theorem d_MD_wrap_42 : decode prog_20_method_33_code 42 = .ok (.getfield 65, 3) := by decide +kernel
theorem d_MD_wrap_45 : decode prog_20_method_33_code 45 = .ok (.bipush 7, 2) := by decide +kernel
theorem d_MD_wrap_47 : decode prog_20_method_33_code 47 = .ok (.iload_n 1, 1) := by decide +kernel
theorem d_MD_wrap_48 : decode prog_20_method_33_code 48 = .ok (.imul, 1) := by decide +kernel
theorem d_MD_wrap_49 : decode prog_20_method_33_code 49 = .ok (.iaload, 1) := by decide +kernel
theorem d_MD_wrap_50 : decode prog_20_method_33_code 50 = .ok (.ifCond .gt 22, 3) := by decide +kernel
theorem d_MD_wrap_53 : decode prog_20_method_33_code 53 = .ok (.iload_n 3, 1) := by decide +kernel
theorem d_MD_wrap_54 : decode prog_20_method_33_code 54 = .ok (.aload_n 0, 1) := by decide +kernel
theorem d_MD_wrap_55 : decode prog_20_method_33_code 55 = .ok (.getfield 59, 3) := by decide +kernel
theorem d_MD_wrap_58 : decode prog_20_method_33_code 58 = .ok (.iload_n 1, 1) := by decide +kernel
theorem d_MD_wrap_59 : decode prog_20_method_33_code 59 = .ok (.iaload, 1) := by decide +kernel
theorem d_MD_wrap_60 : decode prog_20_method_33_code 60 = .ok (.aload_n 0, 1) := by decide +kernel
theorem d_MD_wrap_61 : decode prog_20_method_33_code 61 = .ok (.getfield 62, 3) := by decide +kernel
theorem d_MD_wrap_64 : decode prog_20_method_33_code 64 = .ok (.iload_n 1, 1) := by decide +kernel
theorem d_MD_wrap_65 : decode prog_20_method_33_code 65 = .ok (.iaload, 1) := by decide +kernel
theorem d_MD_wrap_66 : decode prog_20_method_33_code 66 = .ok (.invokestatic 115, 3) := by decide +kernel
theorem d_MD_wrap_69 : decode prog_20_method_33_code 69 = .ok (.if_icmp .eq 49, 3) := by decide +kernel
theorem d_MD_wrap_72 : decode prog_20_method_33_code 72 = .ok (.aload_n 0, 1) := by decide +kernel
theorem d_MD_wrap_73 : decode prog_20_method_33_code 73 = .ok (.getfield 65, 3) := by decide +kernel
theorem d_MD_wrap_76 : decode prog_20_method_33_code 76 = .ok (.bipush 7, 2) := by decide +kernel
theorem d_MD_wrap_78 : decode prog_20_method_33_code 78 = .ok (.iload_n 1, 1) := by decide +kernel
theorem d_MD_wrap_79 : decode prog_20_method_33_code 79 = .ok (.imul, 1) := by decide +kernel
theorem d_MD_wrap_80 : decode prog_20_method_33_code 80 = .ok (.aload_n 0, 1) := by decide +kernel
theorem d_MD_wrap_81 : decode prog_20_method_33_code 81 = .ok (.getfield 65, 3) := by decide +kernel
theorem d_MD_wrap_84 : decode prog_20_method_33_code 84 = .ok (.bipush 7, 2) := by decide +kernel
theorem d_MD_wrap_86 : decode prog_20_method_33_code 86 = .ok (.iload_n 1, 1) := by decide +kernel
theorem d_MD_wrap_87 : decode prog_20_method_33_code 87 = .ok (.imul, 1) := by decide +kernel
theorem d_MD_wrap_88 : decode prog_20_method_33_code 88 = .ok (.iaload, 1) := by decide +kernel
theorem d_MD_wrap_89 : decode prog_20_method_33_code 89 = .ok (.ifCond .le 15, 3) := by decide +kernel
theorem d_MD_wrap_92 : decode prog_20_method_33_code 92 = .ok (.aload_n 0, 1) := by decide +kernel
theorem d_MD_wrap_93 : decode prog_20_method_33_code 93 = .ok (.getfield 65, 3) := by decide +kernel
theorem d_MD_wrap_96 : decode prog_20_method_33_code 96 = .ok (.bipush 7, 2) := by decide +kernel
theorem d_MD_wrap_98 : decode prog_20_method_33_code 98 = .ok (.iload_n 1, 1) := by decide +kernel
theorem d_MD_wrap_99 : decode prog_20_method_33_code 99 = .ok (.imul, 1) := by decide +kernel
theorem d_MD_wrap_100 : decode prog_20_method_33_code 100 = .ok (.iaload, 1) := by decide +kernel
theorem d_MD_wrap_101 : decode prog_20_method_33_code 101 = .ok (.goto 4, 3) := by decide +kernel
theorem d_MD_wrap_104 : decode prog_20_method_33_code 104 = .ok (.iconst 1, 1) := by decide +kernel
theorem d_MD_wrap_105 : decode prog_20_method_33_code 105 = .ok (.iastore, 1) := by decide +kernel
theorem d_MD_wrap_106 : decode prog_20_method_33_code 106 = .ok (.aload_n 0, 1) := by decide +kernel
theorem d_MD_wrap_107 : decode prog_20_method_33_code 107 = .ok (.getfield 65, 3) := by decide +kernel
theorem d_MD_wrap_110 : decode prog_20_method_33_code 110 = .ok (.bipush 7, 2) := by decide +kernel
theorem d_MD_wrap_112 : decode prog_20_method_33_code 112 = .ok (.iload_n 1, 1) := by decide +kernel
theorem d_MD_wrap_113 : decode prog_20_method_33_code 113 = .ok (.imul, 1) := by decide +kernel
theorem d_MD_wrap_114 : decode prog_20_method_33_code 114 = .ok (.iconst 1, 1) := by decide +kernel
theorem d_MD_wrap_115 : decode prog_20_method_33_code 115 = .ok (.iadd, 1) := by decide +kernel
theorem d_MD_wrap_116 : decode prog_20_method_33_code 116 = .ok (.iload_n 3, 1) := by decide +kernel
theorem d_MD_wrap_117 : decode prog_20_method_33_code 117 = .ok (.iastore, 1) := by decide +kernel
theorem d_MD_wrap_118 : decode prog_20_method_33_code 118 = .ok (.aload_n 0, 1) := by decide +kernel
theorem d_MD_wrap_119 : decode prog_20_method_33_code 119 = .ok (.getfield 71, 3) := by decide +kernel
theorem d_MD_wrap_122 : decode prog_20_method_33_code 122 = .ok (.iload_n 2, 1) := by decide +kernel
theorem d_MD_wrap_123 : decode prog_20_method_33_code 123 = .ok (.iconst 0, 1) := by decide +kernel
theorem d_MD_wrap_124 : decode prog_20_method_33_code 124 = .ok (.iastore, 1) := by decide +kernel
theorem d_MD_wrap_125 : decode prog_20_method_33_code 125 = .ok (.return_, 1) := by decide +kernel
theorem d_MD_unwrap_0 : decode prog_20_method_34_code 0 = .ok (.aload_n 0, 1) := by decide +kernel
theorem d_MD_unwrap_1 : decode prog_20_method_34_code 1 = .ok (.getfield 71, 3) := by decide +kernel
theorem d_MD_unwrap_4 : decode prog_20_method_34_code 4 = .ok (.iload_n 2, 1) := by decide +kernel
theorem d_MD_unwrap_5 : decode prog_20_method_34_code 5 = .ok (.iconst 0, 1) := by decide +kernel
theorem d_MD_unwrap_6 : decode prog_20_method_34_code 6 = .ok (.iastore, 1) := by decide +kernel
theorem d_MD_unwrap_7 : decode prog_20_method_34_code 7 = .ok (.aload_n 0, 1) := by decide +kernel
theorem d_MD_unwrap_8 : decode prog_20_method_34_code 8 = .ok (.getfield 65, 3) := by decide +kernel
theorem d_MD_unwrap_11 : decode prog_20_method_34_code 11 = .ok (.bipush 7, 2) := by decide +kernel
theorem d_MD_unwrap_13 : decode prog_20_method_34_code 13 = .ok (.iload_n 1, 1) := by decide +kernel
theorem d_MD_unwrap_14 : decode prog_20_method_34_code 14 = .ok (.imul, 1) := by decide +kernel
theorem d_MD_unwrap_15 : decode prog_20_method_34_code 15 = .ok (.iaload, 1) := by decide +kernel
theorem d_MD_unwrap_16 : decode prog_20_method_34_code 16 = .ok (.iconst 1, 1) := by decide +kernel
theorem d_MD_unwrap_17 : decode prog_20_method_34_code 17 = .ok (.if_icmp .eq 9, 3) := by decide +kernel
theorem d_MD_unwrap_20 : decode prog_20_method_34_code 20 = .ok (.aload_n 0, 1) := by decide +kernel
theorem d_MD_unwrap_21 : decode prog_20_method_34_code 21 = .ok (.iload_n 2, 1) := by decide +kernel
theorem d_MD_unwrap_22 : decode prog_20_method_34_code 22 = .ok (.iload_n 1, 1) := by decide +kernel
theorem d_MD_unwrap_23 : decode prog_20_method_34_code 23 = .ok (.invokevirtual 200, 3) := by decide +kernel
theorem d_MD_unwrap_26 : decode prog_20_method_34_code 26 = .ok (.aload_n 0, 1) := by decide +kernel
theorem d_MD_unwrap_27 : decode prog_20_method_34_code 27 = .ok (.getfield 65, 3) := by decide +kernel
theorem d_MD_unwrap_30 : decode prog_20_method_34_code 30 = .ok (.bipush 7, 2) := by decide +kernel
theorem d_MD_unwrap_32 : decode prog_20_method_34_code 32 = .ok (.iload_n 1, 1) := by decide +kernel
theorem d_MD_unwrap_33 : decode prog_20_method_34_code 33 = .ok (.imul, 1) := by decide +kernel
theorem d_MD_unwrap_34 : decode prog_20_method_34_code 34 = .ok (.iaload, 1) := by decide +kernel
theorem d_MD_unwrap_35 : decode prog_20_method_34_code 35 = .ok (.ifCond .ne 29, 3) := by decide +kernel
theorem d_MD_unwrap_38 : decode prog_20_method_34_code 38 = .ok (.aload_n 0, 1) := by decide +kernel
theorem d_MD_unwrap_39 : decode prog_20_method_34_code 39 = .ok (.getfield 65, 3) := by decide +kernel
theorem d_MD_unwrap_42 : decode prog_20_method_34_code 42 = .ok (.bipush 7, 2) := by decide +kernel
theorem d_MD_unwrap_44 : decode prog_20_method_34_code 44 = .ok (.iload_n 1, 1) := by decide +kernel
theorem d_MD_unwrap_45 : decode prog_20_method_34_code 45 = .ok (.imul, 1) := by decide +kernel
theorem d_MD_unwrap_46 : decode prog_20_method_34_code 46 = .ok (.iconst 1, 1) := by decide +kernel
theorem d_MD_unwrap_47 : decode prog_20_method_34_code 47 = .ok (.iadd, 1) := by decide +kernel
theorem d_MD_unwrap_48 : decode prog_20_method_34_code 48 = .ok (.aload_n 0, 1) := by decide +kernel
theorem d_MD_unwrap_49 : decode prog_20_method_34_code 49 = .ok (.getfield 59, 3) := by decide +kernel
theorem d_MD_unwrap_52 : decode prog_20_method_34_code 52 = .ok (.iload_n 1, 1) := by decide +kernel
theorem d_MD_unwrap_53 : decode prog_20_method_34_code 53 = .ok (.iaload, 1) := by decide +kernel
theorem d_MD_unwrap_54 : decode prog_20_method_34_code 54 = .ok (.aload_n 0, 1) := by decide +kernel
theorem d_MD_unwrap_55 : decode prog_20_method_34_code 55 = .ok (.getfield 62, 3) := by decide +kernel
theorem d_MD_unwrap_58 : decode prog_20_method_34_code 58 = .ok (.iload_n 1, 1) := by decide +kernel
theorem d_MD_unwrap_59 : decode prog_20_method_34_code 59 = .ok (.iaload, 1) := by decide +kernel
theorem d_MD_unwrap_60 : decode prog_20_method_34_code 60 = .ok (.invokestatic 115, 3) := by decide +kernel
theorem d_MD_unwrap_63 : decode prog_20_method_34_code 63 = .ok (.iastore, 1) := by decide +kernel
theorem d_MD_unwrap_64 : decode prog_20_method_34_code 64 = .ok (.aload_n 0, 1) := by decide +kernel
theorem d_MD_unwrap_65 : decode prog_20_method_34_code 65 = .ok (.getfield 65, 3) := by decide +kernel
theorem d_MD_unwrap_68 : decode prog_20_method_34_code 68 = .ok (.bipush 7, 2) := by decide +kernel
theorem d_MD_unwrap_70 : decode prog_20_method_34_code 70 = .ok (.iload_n 1, 1) := by decide +kernel
theorem d_MD_unwrap_71 : decode prog_20_method_34_code 71 = .ok (.imul, 1) := by decide +kernel
theorem d_MD_unwrap_72 : decode prog_20_method_34_code 72 = .ok (.iconst 1, 1) := by decide +kernel
theorem d_MD_unwrap_73 : decode prog_20_method_34_code 73 = .ok (.iastore, 1) := by decide +kernel
theorem d_MD_unwrap_74 : decode prog_20_method_34_code 74 = .ok (.return_, 1) := by decide +kernel
theorem d_MD_opened_0 : decode prog_20_method_35_code 0 = .ok (.aload_n 0, 1) := by decide +kernel
theorem d_MD_opened_1 : decode prog_20_method_35_code 1 = .ok (.getfield 68, 3) := by decide +kernel
theorem d_MD_opened_4 : decode prog_20_method_35_code 4 = .ok (.iload_n 1, 1) := by decide +kernel
theorem d_MD_opened_5 : decode prog_20_method_35_code 5 = .ok (.iaload, 1) := by decide +kernel
theorem d_MD_opened_6 : decode prog_20_method_35_code 6 = .ok (.istore_n 2, 1) := by decide +kernel
theorem d_MD_opened_7 : decode prog_20_method_35_code 7 = .ok (.aload_n 0, 1) := by decide +kernel
theorem d_MD_opened_8 : decode prog_20_method_35_code 8 = .ok (.getfield 77, 3) := by decide +kernel
theorem d_MD_opened_11 : decode prog_20_method_35_code 11 = .ok (.iload_n 2, 1) := by decide +kernel
theorem d_MD_opened_12 : decode prog_20_method_35_code 12 = .ok (.iaload, 1) := by decide +kernel
theorem d_MD_opened_13 : decode prog_20_method_35_code 13 = .ok (.iconst 3, 1) := by decide +kernel
theorem d_MD_opened_14 : decode prog_20_method_35_code 14 = .ok (.if_icmp .ne 12, 3) := by decide +kernel
theorem d_MD_opened_17 : decode prog_20_method_35_code 17 = .ok (.aload_n 0, 1) := by decide +kernel
theorem d_MD_opened_18 : decode prog_20_method_35_code 18 = .ok (.iload_n 2, 1) := by decide +kernel
theorem d_MD_opened_19 : decode prog_20_method_35_code 19 = .ok (.iconst 0, 1) := by decide +kernel
theorem d_MD_opened_20 : decode prog_20_method_35_code 20 = .ok (.invokevirtual 207, 3) := by decide +kernel
theorem d_MD_opened_23 : decode prog_20_method_35_code 23 = .ok (.goto 45, 3) := by decide +kernel
theorem d_MD_opened_26 : decode prog_20_method_35_code 26 = .ok (.aload_n 0, 1) := by decide +kernel
theorem d_MD_opened_27 : decode prog_20_method_35_code 27 = .ok (.getfield 77, 3) := by decide +kernel
theorem d_MD_opened_30 : decode prog_20_method_35_code 30 = .ok (.iload_n 2, 1) := by decide +kernel
theorem d_MD_opened_31 : decode prog_20_method_35_code 31 = .ok (.iaload, 1) := by decide +kernel
theorem d_MD_opened_32 : decode prog_20_method_35_code 32 = .ok (.iconst 2, 1) := by decide +kernel
theorem d_MD_opened_33 : decode prog_20_method_35_code 33 = .ok (.if_icmp .ne 25, 3) := by decide +kernel
theorem d_MD_opened_36 : decode prog_20_method_35_code 36 = .ok (.aload_n 0, 1) := by decide +kernel
theorem d_MD_opened_37 : decode prog_20_method_35_code 37 = .ok (.aload_n 0, 1) := by decide +kernel
theorem d_MD_opened_38 : decode prog_20_method_35_code 38 = .ok (.getfield 59, 3) := by decide +kernel
theorem d_MD_opened_41 : decode prog_20_method_35_code 41 = .ok (.iload_n 1, 1) := by decide +kernel
theorem d_MD_opened_42 : decode prog_20_method_35_code 42 = .ok (.iaload, 1) := by decide +kernel
theorem d_MD_opened_43 : decode prog_20_method_35_code 43 = .ok (.aload_n 0, 1) := by decide +kernel
theorem d_MD_opened_44 : decode prog_20_method_35_code 44 = .ok (.getfield 62, 3) := by decide +kernel
theorem d_MD_opened_47 : decode prog_20_method_35_code 47 = .ok (.iload_n 1, 1) := by decide +kernel
theorem d_MD_opened_48 : decode prog_20_method_35_code 48 = .ok (.iaload, 1) := by decide +kernel
theorem d_MD_opened_49 : decode prog_20_method_35_code 49 = .ok (.invokestatic 115, 3) := by decide +kernel
theorem d_MD_opened_52 : decode prog_20_method_35_code 52 = .ok (.invokevirtual 121, 3) := by decide +kernel
theorem d_MD_opened_55 : decode prog_20_method_35_code 55 = .ok (.goto 13, 3) := by decide +kernel
theorem d_MD_opened_58 : decode prog_20_method_35_code 58 = .ok (.aload_n 0, 1) := by decide +kernel
theorem d_MD_opened_59 : decode prog_20_method_35_code 59 = .ok (.iconst 4, 1) := by decide +kernel
theorem d_MD_opened_60 : decode prog_20_method_35_code 60 = .ok (.iload_n 2, 1) := by decide +kernel
theorem d_MD_opened_61 : decode prog_20_method_35_code 61 = .ok (.iconst 0, 1) := by decide +kernel
theorem d_MD_opened_62 : decode prog_20_method_35_code 62 = .ok (.iconst 0, 1) := by decide +kernel
theorem d_MD_opened_63 : decode prog_20_method_35_code 63 = .ok (.iconst 0, 1) := by decide +kernel
theorem d_MD_opened_64 : decode prog_20_method_35_code 64 = .ok (.iconst 0, 1) := by decide +kernel
theorem d_MD_opened_65 : decode prog_20_method_35_code 65 = .ok (.invokevirtual 124, 3) := by decide +kernel
theorem d_MD_opened_68 : decode prog_20_method_35_code 68 = .ok (.ireturn, 1) := by decide +kernel
