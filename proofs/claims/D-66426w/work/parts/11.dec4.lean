/-! decode rows (printed by wip/gen/links.py) -/
theorem d_MD_split_0 : decode prog_20_method_36_code 0 = .ok (.aload_n 0, 1) := by decide +kernel
theorem d_MD_split_1 : decode prog_20_method_36_code 1 = .ok (.getfield 65, 3) := by decide +kernel
theorem d_MD_split_4 : decode prog_20_method_36_code 4 = .ok (.bipush 7, 2) := by decide +kernel
theorem d_MD_split_6 : decode prog_20_method_36_code 6 = .ok (.iload_n 1, 1) := by decide +kernel
theorem d_MD_split_7 : decode prog_20_method_36_code 7 = .ok (.imul, 1) := by decide +kernel
theorem d_MD_split_8 : decode prog_20_method_36_code 8 = .ok (.iconst 1, 1) := by decide +kernel
theorem d_MD_split_9 : decode prog_20_method_36_code 9 = .ok (.iadd, 1) := by decide +kernel
theorem d_MD_split_10 : decode prog_20_method_36_code 10 = .ok (.iaload, 1) := by decide +kernel
theorem d_MD_split_11 : decode prog_20_method_36_code 11 = .ok (.istore 5, 2) := by decide +kernel
theorem d_MD_split_13 : decode prog_20_method_36_code 13 = .ok (.aload_n 0, 1) := by decide +kernel
theorem d_MD_split_14 : decode prog_20_method_36_code 14 = .ok (.getfield 68, 3) := by decide +kernel
theorem d_MD_split_17 : decode prog_20_method_36_code 17 = .ok (.iload_n 1, 1) := by decide +kernel
theorem d_MD_split_18 : decode prog_20_method_36_code 18 = .ok (.iaload, 1) := by decide +kernel
theorem d_MD_split_19 : decode prog_20_method_36_code 19 = .ok (.istore 6, 2) := by decide +kernel
theorem d_MD_split_21 : decode prog_20_method_36_code 21 = .ok (.aload_n 0, 1) := by decide +kernel
theorem d_MD_split_22 : decode prog_20_method_36_code 22 = .ok (.getfield 59, 3) := by decide +kernel
theorem d_MD_split_25 : decode prog_20_method_36_code 25 = .ok (.iload_n 1, 1) := by decide +kernel
theorem d_MD_split_26 : decode prog_20_method_36_code 26 = .ok (.aload_n 0, 1) := by decide +kernel
theorem d_MD_split_27 : decode prog_20_method_36_code 27 = .ok (.getfield 59, 3) := by decide +kernel
theorem d_MD_split_30 : decode prog_20_method_36_code 30 = .ok (.iload_n 1, 1) := by decide +kernel
theorem d_MD_split_31 : decode prog_20_method_36_code 31 = .ok (.iaload, 1) := by decide +kernel
theorem d_MD_split_32 : decode prog_20_method_36_code 32 = .ok (.i2l, 1) := by decide +kernel
theorem d_MD_split_33 : decode prog_20_method_36_code 33 = .ok (.iload_n 3, 1) := by decide +kernel
theorem d_MD_split_34 : decode prog_20_method_36_code 34 = .ok (.i2l, 1) := by decide +kernel
theorem d_MD_split_35 : decode prog_20_method_36_code 35 = .ok (.invokestatic 184, 3) := by decide +kernel
theorem d_MD_split_38 : decode prog_20_method_36_code 38 = .ok (.l2i, 1) := by decide +kernel
theorem d_MD_split_39 : decode prog_20_method_36_code 39 = .ok (.iastore, 1) := by decide +kernel
theorem d_MD_split_40 : decode prog_20_method_36_code 40 = .ok (.aload_n 0, 1) := by decide +kernel
theorem d_MD_split_41 : decode prog_20_method_36_code 41 = .ok (.getfield 62, 3) := by decide +kernel
theorem d_MD_split_44 : decode prog_20_method_36_code 44 = .ok (.iload_n 1, 1) := by decide +kernel
theorem d_MD_split_45 : decode prog_20_method_36_code 45 = .ok (.aload_n 0, 1) := by decide +kernel
theorem d_MD_split_46 : decode prog_20_method_36_code 46 = .ok (.getfield 62, 3) := by decide +kernel
theorem d_MD_split_49 : decode prog_20_method_36_code 49 = .ok (.iload_n 1, 1) := by decide +kernel
theorem d_MD_split_50 : decode prog_20_method_36_code 50 = .ok (.iaload, 1) := by decide +kernel
theorem d_MD_split_51 : decode prog_20_method_36_code 51 = .ok (.i2l, 1) := by decide +kernel
theorem d_MD_split_52 : decode prog_20_method_36_code 52 = .ok (.iload_n 3, 1) := by decide +kernel
theorem d_MD_split_53 : decode prog_20_method_36_code 53 = .ok (.i2l, 1) := by decide +kernel
theorem d_MD_split_54 : decode prog_20_method_36_code 54 = .ok (.invokestatic 184, 3) := by decide +kernel
theorem d_MD_split_57 : decode prog_20_method_36_code 57 = .ok (.l2i, 1) := by decide +kernel
theorem d_MD_split_58 : decode prog_20_method_36_code 58 = .ok (.iastore, 1) := by decide +kernel
theorem d_MD_split_59 : decode prog_20_method_36_code 59 = .ok (.aload_n 0, 1) := by decide +kernel
theorem d_MD_split_60 : decode prog_20_method_36_code 60 = .ok (.iload_n 2, 1) := by decide +kernel
theorem d_MD_split_61 : decode prog_20_method_36_code 61 = .ok (.iload 4, 2) := by decide +kernel
theorem d_MD_split_63 : decode prog_20_method_36_code 63 = .ok (.invokestatic 194, 3) := by decide +kernel
theorem d_MD_split_66 : decode prog_20_method_36_code 66 = .ok (.iconst 0, 1) := by decide +kernel
theorem d_MD_split_67 : decode prog_20_method_36_code 67 = .ok (.iconst 0, 1) := by decide +kernel
theorem d_MD_split_68 : decode prog_20_method_36_code 68 = .ok (.iload_n 3, 1) := by decide +kernel
theorem d_MD_split_69 : decode prog_20_method_36_code 69 = .ok (.iconst 1, 1) := by decide +kernel
theorem d_MD_split_70 : decode prog_20_method_36_code 70 = .ok (.isub, 1) := by decide +kernel
theorem d_MD_split_71 : decode prog_20_method_36_code 71 = .ok (.invokevirtual 139, 3) := by decide +kernel
theorem d_MD_split_74 : decode prog_20_method_36_code 74 = .ok (.istore 7, 2) := by decide +kernel
theorem d_MD_split_76 : decode prog_20_method_36_code 76 = .ok (.aload_n 0, 1) := by decide +kernel
theorem d_MD_split_77 : decode prog_20_method_36_code 77 = .ok (.getfield 118, 3) := by decide +kernel
theorem d_MD_split_80 : decode prog_20_method_36_code 80 = .ok (.iconst 1, 1) := by decide +kernel
theorem d_MD_split_81 : decode prog_20_method_36_code 81 = .ok (.if_icmp .ne 51, 3) := by decide +kernel
theorem d_MD_split_84 : decode prog_20_method_36_code 84 = .ok (.aload_n 0, 1) := by decide +kernel
theorem d_MD_split_85 : decode prog_20_method_36_code 85 = .ok (.getfield 65, 3) := by decide +kernel
theorem d_MD_split_88 : decode prog_20_method_36_code 88 = .ok (.bipush 7, 2) := by decide +kernel
theorem d_MD_split_90 : decode prog_20_method_36_code 90 = .ok (.iload_n 1, 1) := by decide +kernel
theorem d_MD_split_91 : decode prog_20_method_36_code 91 = .ok (.imul, 1) := by decide +kernel
theorem d_MD_split_92 : decode prog_20_method_36_code 92 = .ok (.iconst 1, 1) := by decide +kernel
theorem d_MD_split_93 : decode prog_20_method_36_code 93 = .ok (.iadd, 1) := by decide +kernel
theorem d_MD_split_94 : decode prog_20_method_36_code 94 = .ok (.iload 5, 2) := by decide +kernel
theorem d_MD_split_96 : decode prog_20_method_36_code 96 = .ok (.i2l, 1) := by decide +kernel
theorem d_MD_split_97 : decode prog_20_method_36_code 97 = .ok (.iload_n 3, 1) := by decide +kernel
theorem d_MD_split_98 : decode prog_20_method_36_code 98 = .ok (.i2l, 1) := by decide +kernel
theorem d_MD_split_99 : decode prog_20_method_36_code 99 = .ok (.invokestatic 184, 3) := by decide +kernel
theorem d_MD_split_102 : decode prog_20_method_36_code 102 = .ok (.l2i, 1) := by decide +kernel
theorem d_MD_split_103 : decode prog_20_method_36_code 103 = .ok (.iastore, 1) := by decide +kernel
theorem d_MD_split_104 : decode prog_20_method_36_code 104 = .ok (.aload_n 0, 1) := by decide +kernel
theorem d_MD_split_105 : decode prog_20_method_36_code 105 = .ok (.getfield 65, 3) := by decide +kernel
theorem d_MD_split_108 : decode prog_20_method_36_code 108 = .ok (.bipush 7, 2) := by decide +kernel
theorem d_MD_split_110 : decode prog_20_method_36_code 110 = .ok (.iload 7, 2) := by decide +kernel
theorem d_MD_split_112 : decode prog_20_method_36_code 112 = .ok (.imul, 1) := by decide +kernel
theorem d_MD_split_113 : decode prog_20_method_36_code 113 = .ok (.iconst 1, 1) := by decide +kernel
theorem d_MD_split_114 : decode prog_20_method_36_code 114 = .ok (.iadd, 1) := by decide +kernel
theorem d_MD_split_115 : decode prog_20_method_36_code 115 = .ok (.iload 5, 2) := by decide +kernel
theorem d_MD_split_117 : decode prog_20_method_36_code 117 = .ok (.i2l, 1) := by decide +kernel
theorem d_MD_split_118 : decode prog_20_method_36_code 118 = .ok (.iload_n 3, 1) := by decide +kernel
theorem d_MD_split_119 : decode prog_20_method_36_code 119 = .ok (.i2l, 1) := by decide +kernel
theorem d_MD_split_120 : decode prog_20_method_36_code 120 = .ok (.iload 5, 2) := by decide +kernel
theorem d_MD_split_122 : decode prog_20_method_36_code 122 = .ok (.i2l, 1) := by decide +kernel
theorem d_MD_split_123 : decode prog_20_method_36_code 123 = .ok (.iload_n 3, 1) := by decide +kernel
theorem d_MD_split_124 : decode prog_20_method_36_code 124 = .ok (.i2l, 1) := by decide +kernel
theorem d_MD_split_125 : decode prog_20_method_36_code 125 = .ok (.invokestatic 184, 3) := by decide +kernel
theorem d_MD_split_128 : decode prog_20_method_36_code 128 = .ok (.lmul, 1) := by decide +kernel
theorem d_MD_split_129 : decode prog_20_method_36_code 129 = .ok (.lsub, 1) := by decide +kernel
theorem d_MD_split_130 : decode prog_20_method_36_code 130 = .ok (.l2i, 1) := by decide +kernel
theorem d_MD_split_131 : decode prog_20_method_36_code 131 = .ok (.iastore, 1) := by decide +kernel
theorem d_MD_split_132 : decode prog_20_method_36_code 132 = .ok (.aload_n 0, 1) := by decide +kernel
theorem d_MD_split_133 : decode prog_20_method_36_code 133 = .ok (.getfield 118, 3) := by decide +kernel
theorem d_MD_split_136 : decode prog_20_method_36_code 136 = .ok (.iconst 2, 1) := by decide +kernel
theorem d_MD_split_137 : decode prog_20_method_36_code 137 = .ok (.if_icmp .eq 4, 3) := by decide +kernel
theorem d_MD_split_140 : decode prog_20_method_36_code 140 = .ok (.return_, 1) := by decide +kernel
theorem d_MD_split_141 : decode prog_20_method_36_code 141 = .ok (.aload_n 0, 1) := by decide +kernel
theorem d_MD_split_142 : decode prog_20_method_36_code 142 = .ok (.iload 6, 2) := by decide +kernel
theorem d_MD_split_144 : decode prog_20_method_36_code 144 = .ok (.invokevirtual 210, 3) := by decide +kernel
theorem d_MD_split_147 : decode prog_20_method_36_code 147 = .ok (.ifCond .eq 59, 3) := by decide +kernel
theorem d_MD_split_150 : decode prog_20_method_36_code 150 = .ok (.aload_n 0, 1) := by decide +kernel
theorem d_MD_split_151 : decode prog_20_method_36_code 151 = .ok (.iload 6, 2) := by decide +kernel
theorem d_MD_split_153 : decode prog_20_method_36_code 153 = .ok (.iconst 0, 1) := by decide +kernel
theorem d_MD_split_154 : decode prog_20_method_36_code 154 = .ok (.invokevirtual 207, 3) := by decide +kernel
theorem d_MD_split_157 : decode prog_20_method_36_code 157 = .ok (.i2l, 1) := by decide +kernel
theorem d_MD_split_158 : decode prog_20_method_36_code 158 = .ok (.lstore 8, 2) := by decide +kernel
theorem d_MD_split_160 : decode prog_20_method_36_code 160 = .ok (.aload_n 0, 1) := by decide +kernel
theorem d_MD_split_161 : decode prog_20_method_36_code 161 = .ok (.getfield 68, 3) := by decide +kernel
theorem d_MD_split_164 : decode prog_20_method_36_code 164 = .ok (.iload_n 1, 1) := by decide +kernel
theorem d_MD_split_165 : decode prog_20_method_36_code 165 = .ok (.aload_n 0, 1) := by decide +kernel
theorem d_MD_split_166 : decode prog_20_method_36_code 166 = .ok (.lload 8, 2) := by decide +kernel
theorem d_MD_split_168 : decode prog_20_method_36_code 168 = .ok (.iload_n 3, 1) := by decide +kernel
theorem d_MD_split_169 : decode prog_20_method_36_code 169 = .ok (.i2l, 1) := by decide +kernel
theorem d_MD_split_170 : decode prog_20_method_36_code 170 = .ok (.invokestatic 184, 3) := by decide +kernel
theorem d_MD_split_173 : decode prog_20_method_36_code 173 = .ok (.l2i, 1) := by decide +kernel
theorem d_MD_split_174 : decode prog_20_method_36_code 174 = .ok (.invokevirtual 121, 3) := by decide +kernel
theorem d_MD_split_177 : decode prog_20_method_36_code 177 = .ok (.iastore, 1) := by decide +kernel
theorem d_MD_split_178 : decode prog_20_method_36_code 178 = .ok (.aload_n 0, 1) := by decide +kernel
theorem d_MD_split_179 : decode prog_20_method_36_code 179 = .ok (.getfield 68, 3) := by decide +kernel
theorem d_MD_split_182 : decode prog_20_method_36_code 182 = .ok (.iload 7, 2) := by decide +kernel
theorem d_MD_split_184 : decode prog_20_method_36_code 184 = .ok (.aload_n 0, 1) := by decide +kernel
theorem d_MD_split_185 : decode prog_20_method_36_code 185 = .ok (.lload 8, 2) := by decide +kernel
theorem d_MD_split_187 : decode prog_20_method_36_code 187 = .ok (.iload_n 3, 1) := by decide +kernel
theorem d_MD_split_188 : decode prog_20_method_36_code 188 = .ok (.i2l, 1) := by decide +kernel
theorem d_MD_split_189 : decode prog_20_method_36_code 189 = .ok (.lload 8, 2) := by decide +kernel
theorem d_MD_split_191 : decode prog_20_method_36_code 191 = .ok (.iload_n 3, 1) := by decide +kernel
theorem d_MD_split_192 : decode prog_20_method_36_code 192 = .ok (.i2l, 1) := by decide +kernel
theorem d_MD_split_193 : decode prog_20_method_36_code 193 = .ok (.invokestatic 184, 3) := by decide +kernel
theorem d_MD_split_196 : decode prog_20_method_36_code 196 = .ok (.lmul, 1) := by decide +kernel
theorem d_MD_split_197 : decode prog_20_method_36_code 197 = .ok (.lsub, 1) := by decide +kernel
theorem d_MD_split_198 : decode prog_20_method_36_code 198 = .ok (.l2i, 1) := by decide +kernel
theorem d_MD_split_199 : decode prog_20_method_36_code 199 = .ok (.invokevirtual 121, 3) := by decide +kernel
theorem d_MD_split_202 : decode prog_20_method_36_code 202 = .ok (.iastore, 1) := by decide +kernel
theorem d_MD_split_203 : decode prog_20_method_36_code 203 = .ok (.goto 92, 3) := by decide +kernel
theorem d_MD_split_206 : decode prog_20_method_36_code 206 = .ok (.aload_n 0, 1) := by decide +kernel
theorem d_MD_split_207 : decode prog_20_method_36_code 207 = .ok (.getfield 77, 3) := by decide +kernel
theorem d_MD_split_210 : decode prog_20_method_36_code 210 = .ok (.iload 6, 2) := by decide +kernel
theorem d_MD_split_212 : decode prog_20_method_36_code 212 = .ok (.iaload, 1) := by decide +kernel
theorem d_MD_split_213 : decode prog_20_method_36_code 213 = .ok (.bipush 7, 2) := by decide +kernel
theorem d_MD_split_215 : decode prog_20_method_36_code 215 = .ok (.if_icmp .ne 44, 3) := by decide +kernel
theorem d_MD_split_218 : decode prog_20_method_36_code 218 = .ok (.aload_n 0, 1) := by decide +kernel
theorem d_MD_split_219 : decode prog_20_method_36_code 219 = .ok (.iload 6, 2) := by decide +kernel
theorem d_MD_split_221 : decode prog_20_method_36_code 221 = .ok (.iconst 2, 1) := by decide +kernel
theorem d_MD_split_222 : decode prog_20_method_36_code 222 = .ok (.invokevirtual 207, 3) := by decide +kernel
theorem d_MD_split_225 : decode prog_20_method_36_code 225 = .ok (.iload_n 3, 1) := by decide +kernel
theorem d_MD_split_226 : decode prog_20_method_36_code 226 = .ok (.if_icmp .ne 33, 3) := by decide +kernel
theorem d_MD_split_229 : decode prog_20_method_36_code 229 = .ok (.aload_n 0, 1) := by decide +kernel
theorem d_MD_split_230 : decode prog_20_method_36_code 230 = .ok (.getfield 68, 3) := by decide +kernel
theorem d_MD_split_233 : decode prog_20_method_36_code 233 = .ok (.iload_n 1, 1) := by decide +kernel
theorem d_MD_split_234 : decode prog_20_method_36_code 234 = .ok (.aload_n 0, 1) := by decide +kernel
theorem d_MD_split_235 : decode prog_20_method_36_code 235 = .ok (.iload 6, 2) := by decide +kernel
theorem d_MD_split_237 : decode prog_20_method_36_code 237 = .ok (.iconst 0, 1) := by decide +kernel
theorem d_MD_split_238 : decode prog_20_method_36_code 238 = .ok (.invokevirtual 207, 3) := by decide +kernel
theorem d_MD_split_241 : decode prog_20_method_36_code 241 = .ok (.iastore, 1) := by decide +kernel
theorem d_MD_split_242 : decode prog_20_method_36_code 242 = .ok (.aload_n 0, 1) := by decide +kernel
theorem d_MD_split_243 : decode prog_20_method_36_code 243 = .ok (.getfield 68, 3) := by decide +kernel
theorem d_MD_split_246 : decode prog_20_method_36_code 246 = .ok (.iload 7, 2) := by decide +kernel
theorem d_MD_split_248 : decode prog_20_method_36_code 248 = .ok (.aload_n 0, 1) := by decide +kernel
theorem d_MD_split_249 : decode prog_20_method_36_code 249 = .ok (.iload 6, 2) := by decide +kernel
theorem d_MD_split_251 : decode prog_20_method_36_code 251 = .ok (.iconst 1, 1) := by decide +kernel
theorem d_MD_split_252 : decode prog_20_method_36_code 252 = .ok (.invokevirtual 207, 3) := by decide +kernel
theorem d_MD_split_255 : decode prog_20_method_36_code 255 = .ok (.iastore, 1) := by decide +kernel
theorem d_MD_split_256 : decode prog_20_method_36_code 256 = .ok (.goto 39, 3) := by decide +kernel
theorem d_MD_split_259 : decode prog_20_method_36_code 259 = .ok (.aload_n 0, 1) := by decide +kernel
theorem d_MD_split_260 : decode prog_20_method_36_code 260 = .ok (.getfield 68, 3) := by decide +kernel
theorem d_MD_split_263 : decode prog_20_method_36_code 263 = .ok (.iload_n 1, 1) := by decide +kernel
theorem d_MD_split_264 : decode prog_20_method_36_code 264 = .ok (.aload_n 0, 1) := by decide +kernel
theorem d_MD_split_265 : decode prog_20_method_36_code 265 = .ok (.iconst 5, 1) := by decide +kernel
theorem d_MD_split_266 : decode prog_20_method_36_code 266 = .ok (.iload 6, 2) := by decide +kernel
theorem d_MD_split_268 : decode prog_20_method_36_code 268 = .ok (.iload_n 3, 1) := by decide +kernel
theorem d_MD_split_269 : decode prog_20_method_36_code 269 = .ok (.iconst 0, 1) := by decide +kernel
theorem d_MD_split_270 : decode prog_20_method_36_code 270 = .ok (.iconst 0, 1) := by decide +kernel
theorem d_MD_split_271 : decode prog_20_method_36_code 271 = .ok (.iconst 0, 1) := by decide +kernel
theorem d_MD_split_272 : decode prog_20_method_36_code 272 = .ok (.invokevirtual 124, 3) := by decide +kernel
theorem d_MD_split_275 : decode prog_20_method_36_code 275 = .ok (.iastore, 1) := by decide +kernel
theorem d_MD_split_276 : decode prog_20_method_36_code 276 = .ok (.aload_n 0, 1) := by decide +kernel
theorem d_MD_split_277 : decode prog_20_method_36_code 277 = .ok (.getfield 68, 3) := by decide +kernel
theorem d_MD_split_280 : decode prog_20_method_36_code 280 = .ok (.iload 7, 2) := by decide +kernel
theorem d_MD_split_282 : decode prog_20_method_36_code 282 = .ok (.aload_n 0, 1) := by decide +kernel
theorem d_MD_split_283 : decode prog_20_method_36_code 283 = .ok (.bipush 6, 2) := by decide +kernel
theorem d_MD_split_285 : decode prog_20_method_36_code 285 = .ok (.iload 6, 2) := by decide +kernel
theorem d_MD_split_287 : decode prog_20_method_36_code 287 = .ok (.iload_n 3, 1) := by decide +kernel
theorem d_MD_split_288 : decode prog_20_method_36_code 288 = .ok (.iconst 0, 1) := by decide +kernel
theorem d_MD_split_289 : decode prog_20_method_36_code 289 = .ok (.iconst 0, 1) := by decide +kernel
theorem d_MD_split_290 : decode prog_20_method_36_code 290 = .ok (.iconst 0, 1) := by decide +kernel
theorem d_MD_split_291 : decode prog_20_method_36_code 291 = .ok (.invokevirtual 124, 3) := by decide +kernel
theorem d_MD_split_294 : decode prog_20_method_36_code 294 = .ok (.iastore, 1) := by decide +kernel
theorem d_MD_split_295 : decode prog_20_method_36_code 295 = .ok (.return_, 1) := by decide +kernel
theorem d_MD_join_0 : decode prog_20_method_37_code 0 = .ok (.aload_n 0, 1) := by decide +kernel
theorem d_MD_join_1 : decode prog_20_method_37_code 1 = .ok (.getfield 68, 3) := by decide +kernel
theorem d_MD_join_4 : decode prog_20_method_37_code 4 = .ok (.iload_n 1, 1) := by decide +kernel
theorem d_MD_join_5 : decode prog_20_method_37_code 5 = .ok (.iaload, 1) := by decide +kernel
theorem d_MD_join_6 : decode prog_20_method_37_code 6 = .ok (.istore 5, 2) := by decide +kernel
theorem d_MD_join_8 : decode prog_20_method_37_code 8 = .ok (.aload_n 0, 1) := by decide +kernel
theorem d_MD_join_9 : decode prog_20_method_37_code 9 = .ok (.getfield 68, 3) := by decide +kernel
theorem d_MD_join_12 : decode prog_20_method_37_code 12 = .ok (.iload_n 2, 1) := by decide +kernel
theorem d_MD_join_13 : decode prog_20_method_37_code 13 = .ok (.iaload, 1) := by decide +kernel
theorem d_MD_join_14 : decode prog_20_method_37_code 14 = .ok (.istore 6, 2) := by decide +kernel
theorem d_MD_join_16 : decode prog_20_method_37_code 16 = .ok (.aload_n 0, 1) := by decide +kernel
theorem d_MD_join_17 : decode prog_20_method_37_code 17 = .ok (.getfield 59, 3) := by decide +kernel
theorem d_MD_join_20 : decode prog_20_method_37_code 20 = .ok (.iload_n 1, 1) := by decide +kernel
theorem d_MD_join_21 : decode prog_20_method_37_code 21 = .ok (.aload_n 0, 1) := by decide +kernel
theorem d_MD_join_22 : decode prog_20_method_37_code 22 = .ok (.getfield 38, 3) := by decide +kernel
theorem d_MD_join_25 : decode prog_20_method_37_code 25 = .ok (.iload 4, 2) := by decide +kernel
theorem d_MD_join_27 : decode prog_20_method_37_code 27 = .ok (.bipush 6, 2) := by decide +kernel
theorem d_MD_join_29 : decode prog_20_method_37_code 29 = .ok (.iadd, 1) := by decide +kernel
theorem d_MD_join_30 : decode prog_20_method_37_code 30 = .ok (.iaload, 1) := by decide +kernel
theorem d_MD_join_31 : decode prog_20_method_37_code 31 = .ok (.iastore, 1) := by decide +kernel
theorem d_MD_join_32 : decode prog_20_method_37_code 32 = .ok (.aload_n 0, 1) := by decide +kernel
theorem d_MD_join_33 : decode prog_20_method_37_code 33 = .ok (.getfield 62, 3) := by decide +kernel
theorem d_MD_join_36 : decode prog_20_method_37_code 36 = .ok (.iload_n 1, 1) := by decide +kernel
theorem d_MD_join_37 : decode prog_20_method_37_code 37 = .ok (.aload_n 0, 1) := by decide +kernel
theorem d_MD_join_38 : decode prog_20_method_37_code 38 = .ok (.getfield 38, 3) := by decide +kernel
theorem d_MD_join_41 : decode prog_20_method_37_code 41 = .ok (.iload 4, 2) := by decide +kernel
theorem d_MD_join_43 : decode prog_20_method_37_code 43 = .ok (.bipush 7, 2) := by decide +kernel
theorem d_MD_join_45 : decode prog_20_method_37_code 45 = .ok (.iadd, 1) := by decide +kernel
theorem d_MD_join_46 : decode prog_20_method_37_code 46 = .ok (.iaload, 1) := by decide +kernel
theorem d_MD_join_47 : decode prog_20_method_37_code 47 = .ok (.iastore, 1) := by decide +kernel
theorem d_MD_join_48 : decode prog_20_method_37_code 48 = .ok (.aload_n 0, 1) := by decide +kernel
theorem d_MD_join_49 : decode prog_20_method_37_code 49 = .ok (.getfield 118, 3) := by decide +kernel
theorem d_MD_join_52 : decode prog_20_method_37_code 52 = .ok (.iconst 1, 1) := by decide +kernel
theorem d_MD_join_53 : decode prog_20_method_37_code 53 = .ok (.if_icmp .ne 89, 3) := by decide +kernel
theorem d_MD_join_56 : decode prog_20_method_37_code 56 = .ok (.aload_n 0, 1) := by decide +kernel
theorem d_MD_join_57 : decode prog_20_method_37_code 57 = .ok (.getfield 65, 3) := by decide +kernel
theorem d_MD_join_60 : decode prog_20_method_37_code 60 = .ok (.bipush 7, 2) := by decide +kernel
theorem d_MD_join_62 : decode prog_20_method_37_code 62 = .ok (.iload_n 1, 1) := by decide +kernel
theorem d_MD_join_63 : decode prog_20_method_37_code 63 = .ok (.imul, 1) := by decide +kernel
theorem d_MD_join_64 : decode prog_20_method_37_code 64 = .ok (.iconst 1, 1) := by decide +kernel
theorem d_MD_join_65 : decode prog_20_method_37_code 65 = .ok (.iadd, 1) := by decide +kernel
theorem d_MD_join_66 : decode prog_20_method_37_code 66 = .ok (.iaload, 1) := by decide +kernel
theorem d_MD_join_67 : decode prog_20_method_37_code 67 = .ok (.i2l, 1) := by decide +kernel
theorem d_MD_join_68 : decode prog_20_method_37_code 68 = .ok (.iload_n 3, 1) := by decide +kernel
theorem d_MD_join_69 : decode prog_20_method_37_code 69 = .ok (.i2l, 1) := by decide +kernel
theorem d_MD_join_70 : decode prog_20_method_37_code 70 = .ok (.lmul, 1) := by decide +kernel
theorem d_MD_join_71 : decode prog_20_method_37_code 71 = .ok (.aload_n 0, 1) := by decide +kernel
theorem d_MD_join_72 : decode prog_20_method_37_code 72 = .ok (.getfield 65, 3) := by decide +kernel
theorem d_MD_join_75 : decode prog_20_method_37_code 75 = .ok (.bipush 7, 2) := by decide +kernel
theorem d_MD_join_77 : decode prog_20_method_37_code 77 = .ok (.iload_n 2, 1) := by decide +kernel
theorem d_MD_join_78 : decode prog_20_method_37_code 78 = .ok (.imul, 1) := by decide +kernel
theorem d_MD_join_79 : decode prog_20_method_37_code 79 = .ok (.iconst 1, 1) := by decide +kernel
theorem d_MD_join_80 : decode prog_20_method_37_code 80 = .ok (.iadd, 1) := by decide +kernel
theorem d_MD_join_81 : decode prog_20_method_37_code 81 = .ok (.iaload, 1) := by decide +kernel
theorem d_MD_join_82 : decode prog_20_method_37_code 82 = .ok (.i2l, 1) := by decide +kernel
theorem d_MD_join_83 : decode prog_20_method_37_code 83 = .ok (.ladd, 1) := by decide +kernel
theorem d_MD_join_84 : decode prog_20_method_37_code 84 = .ok (.lstore 7, 2) := by decide +kernel
theorem d_MD_join_86 : decode prog_20_method_37_code 86 = .ok (.aload_n 0, 1) := by decide +kernel
theorem d_MD_join_87 : decode prog_20_method_37_code 87 = .ok (.aload_n 0, 1) := by decide +kernel
theorem d_MD_join_88 : decode prog_20_method_37_code 88 = .ok (.getfield 214, 3) := by decide +kernel
theorem d_MD_join_91 : decode prog_20_method_37_code 91 = .ok (.ifCond .ne 29, 3) := by decide +kernel
theorem d_MD_join_94 : decode prog_20_method_37_code 94 = .ok (.lload 7, 2) := by decide +kernel
theorem d_MD_join_96 : decode prog_20_method_37_code 96 = .ok (.aload_n 0, 1) := by decide +kernel
theorem d_MD_join_97 : decode prog_20_method_37_code 97 = .ok (.getfield 59, 3) := by decide +kernel
theorem d_MD_join_100 : decode prog_20_method_37_code 100 = .ok (.iload_n 1, 1) := by decide +kernel
theorem d_MD_join_101 : decode prog_20_method_37_code 101 = .ok (.iaload, 1) := by decide +kernel
theorem d_MD_join_102 : decode prog_20_method_37_code 102 = .ok (.i2l, 1) := by decide +kernel
theorem d_MD_join_103 : decode prog_20_method_37_code 103 = .ok (.lcmp, 1) := by decide +kernel
theorem d_MD_join_104 : decode prog_20_method_37_code 104 = .ok (.ifCond .lt 16, 3) := by decide +kernel
theorem d_MD_join_107 : decode prog_20_method_37_code 107 = .ok (.lload 7, 2) := by decide +kernel
theorem d_MD_join_109 : decode prog_20_method_37_code 109 = .ok (.aload_n 0, 1) := by decide +kernel
theorem d_MD_join_110 : decode prog_20_method_37_code 110 = .ok (.getfield 62, 3) := by decide +kernel
theorem d_MD_join_113 : decode prog_20_method_37_code 113 = .ok (.iload_n 1, 1) := by decide +kernel
theorem d_MD_join_114 : decode prog_20_method_37_code 114 = .ok (.iaload, 1) := by decide +kernel
theorem d_MD_join_115 : decode prog_20_method_37_code 115 = .ok (.i2l, 1) := by decide +kernel
theorem d_MD_join_116 : decode prog_20_method_37_code 116 = .ok (.lcmp, 1) := by decide +kernel
theorem d_MD_join_117 : decode prog_20_method_37_code 117 = .ok (.ifCond .le 7, 3) := by decide +kernel
theorem d_MD_join_120 : decode prog_20_method_37_code 120 = .ok (.iconst 1, 1) := by decide +kernel
theorem d_MD_join_121 : decode prog_20_method_37_code 121 = .ok (.goto 4, 3) := by decide +kernel
theorem d_MD_join_124 : decode prog_20_method_37_code 124 = .ok (.iconst 0, 1) := by decide +kernel
theorem d_MD_join_125 : decode prog_20_method_37_code 125 = .ok (.putfield 214, 3) := by decide +kernel
theorem d_MD_join_128 : decode prog_20_method_37_code 128 = .ok (.aload_n 0, 1) := by decide +kernel
theorem d_MD_join_129 : decode prog_20_method_37_code 129 = .ok (.getfield 65, 3) := by decide +kernel
theorem d_MD_join_132 : decode prog_20_method_37_code 132 = .ok (.bipush 7, 2) := by decide +kernel
theorem d_MD_join_134 : decode prog_20_method_37_code 134 = .ok (.iload_n 1, 1) := by decide +kernel
theorem d_MD_join_135 : decode prog_20_method_37_code 135 = .ok (.imul, 1) := by decide +kernel
theorem d_MD_join_136 : decode prog_20_method_37_code 136 = .ok (.iconst 1, 1) := by decide +kernel
theorem d_MD_join_137 : decode prog_20_method_37_code 137 = .ok (.iadd, 1) := by decide +kernel
theorem d_MD_join_138 : decode prog_20_method_37_code 138 = .ok (.lload 7, 2) := by decide +kernel
theorem d_MD_join_140 : decode prog_20_method_37_code 140 = .ok (.l2i, 1) := by decide +kernel
theorem d_MD_join_141 : decode prog_20_method_37_code 141 = .ok (.iastore, 1) := by decide +kernel
theorem d_MD_join_142 : decode prog_20_method_37_code 142 = .ok (.aload_n 0, 1) := by decide +kernel
theorem d_MD_join_143 : decode prog_20_method_37_code 143 = .ok (.getfield 118, 3) := by decide +kernel
theorem d_MD_join_146 : decode prog_20_method_37_code 146 = .ok (.iconst 2, 1) := by decide +kernel
theorem d_MD_join_147 : decode prog_20_method_37_code 147 = .ok (.if_icmp .ne 148, 3) := by decide +kernel
theorem d_MD_join_150 : decode prog_20_method_37_code 150 = .ok (.aload_n 0, 1) := by decide +kernel
theorem d_MD_join_151 : decode prog_20_method_37_code 151 = .ok (.getfield 77, 3) := by decide +kernel
theorem d_MD_join_154 : decode prog_20_method_37_code 154 = .ok (.iload 5, 2) := by decide +kernel
theorem d_MD_join_156 : decode prog_20_method_37_code 156 = .ok (.iaload, 1) := by decide +kernel
theorem d_MD_join_157 : decode prog_20_method_37_code 157 = .ok (.iconst 5, 1) := by decide +kernel
theorem d_MD_join_158 : decode prog_20_method_37_code 158 = .ok (.if_icmp .ne 58, 3) := by decide +kernel
theorem d_MD_join_161 : decode prog_20_method_37_code 161 = .ok (.aload_n 0, 1) := by decide +kernel
theorem d_MD_join_162 : decode prog_20_method_37_code 162 = .ok (.getfield 77, 3) := by decide +kernel
theorem d_MD_join_165 : decode prog_20_method_37_code 165 = .ok (.iload 6, 2) := by decide +kernel
theorem d_MD_join_167 : decode prog_20_method_37_code 167 = .ok (.iaload, 1) := by decide +kernel
theorem d_MD_join_168 : decode prog_20_method_37_code 168 = .ok (.bipush 6, 2) := by decide +kernel
theorem d_MD_join_170 : decode prog_20_method_37_code 170 = .ok (.if_icmp .ne 46, 3) := by decide +kernel
theorem d_MD_join_173 : decode prog_20_method_37_code 173 = .ok (.aload_n 0, 1) := by decide +kernel
theorem d_MD_join_174 : decode prog_20_method_37_code 174 = .ok (.iload 5, 2) := by decide +kernel
theorem d_MD_join_176 : decode prog_20_method_37_code 176 = .ok (.iconst 0, 1) := by decide +kernel
theorem d_MD_join_177 : decode prog_20_method_37_code 177 = .ok (.invokevirtual 207, 3) := by decide +kernel
theorem d_MD_join_180 : decode prog_20_method_37_code 180 = .ok (.aload_n 0, 1) := by decide +kernel
theorem d_MD_join_181 : decode prog_20_method_37_code 181 = .ok (.iload 6, 2) := by decide +kernel
theorem d_MD_join_183 : decode prog_20_method_37_code 183 = .ok (.iconst 0, 1) := by decide +kernel
theorem d_MD_join_184 : decode prog_20_method_37_code 184 = .ok (.invokevirtual 207, 3) := by decide +kernel
theorem d_MD_join_187 : decode prog_20_method_37_code 187 = .ok (.if_icmp .ne 29, 3) := by decide +kernel
theorem d_MD_join_190 : decode prog_20_method_37_code 190 = .ok (.aload_n 0, 1) := by decide +kernel
theorem d_MD_join_191 : decode prog_20_method_37_code 191 = .ok (.iload 5, 2) := by decide +kernel
theorem d_MD_join_193 : decode prog_20_method_37_code 193 = .ok (.iconst 1, 1) := by decide +kernel
theorem d_MD_join_194 : decode prog_20_method_37_code 194 = .ok (.invokevirtual 207, 3) := by decide +kernel
theorem d_MD_join_197 : decode prog_20_method_37_code 197 = .ok (.iload_n 3, 1) := by decide +kernel
theorem d_MD_join_198 : decode prog_20_method_37_code 198 = .ok (.if_icmp .ne 18, 3) := by decide +kernel
theorem d_MD_join_201 : decode prog_20_method_37_code 201 = .ok (.aload_n 0, 1) := by decide +kernel
theorem d_MD_join_202 : decode prog_20_method_37_code 202 = .ok (.iload 6, 2) := by decide +kernel
theorem d_MD_join_204 : decode prog_20_method_37_code 204 = .ok (.iconst 1, 1) := by decide +kernel
theorem d_MD_join_205 : decode prog_20_method_37_code 205 = .ok (.invokevirtual 207, 3) := by decide +kernel
theorem d_MD_join_208 : decode prog_20_method_37_code 208 = .ok (.iload_n 3, 1) := by decide +kernel
theorem d_MD_join_209 : decode prog_20_method_37_code 209 = .ok (.if_icmp .ne 7, 3) := by decide +kernel
theorem d_MD_join_212 : decode prog_20_method_37_code 212 = .ok (.iconst 1, 1) := by decide +kernel
theorem d_MD_join_213 : decode prog_20_method_37_code 213 = .ok (.goto 4, 3) := by decide +kernel
theorem d_MD_join_216 : decode prog_20_method_37_code 216 = .ok (.iconst 0, 1) := by decide +kernel
theorem d_MD_join_217 : decode prog_20_method_37_code 217 = .ok (.istore 7, 2) := by decide +kernel
theorem d_MD_join_219 : decode prog_20_method_37_code 219 = .ok (.aload_n 0, 1) := by decide +kernel
theorem d_MD_join_220 : decode prog_20_method_37_code 220 = .ok (.getfield 68, 3) := by decide +kernel
theorem d_MD_join_223 : decode prog_20_method_37_code 223 = .ok (.iload_n 1, 1) := by decide +kernel
theorem d_MD_join_224 : decode prog_20_method_37_code 224 = .ok (.aload_n 0, 1) := by decide +kernel
theorem d_MD_join_225 : decode prog_20_method_37_code 225 = .ok (.iload 5, 2) := by decide +kernel
theorem d_MD_join_227 : decode prog_20_method_37_code 227 = .ok (.invokevirtual 210, 3) := by decide +kernel
theorem d_MD_join_230 : decode prog_20_method_37_code 230 = .ok (.ifCond .eq 36, 3) := by decide +kernel
theorem d_MD_join_233 : decode prog_20_method_37_code 233 = .ok (.aload_n 0, 1) := by decide +kernel
theorem d_MD_join_234 : decode prog_20_method_37_code 234 = .ok (.iload 6, 2) := by decide +kernel
theorem d_MD_join_236 : decode prog_20_method_37_code 236 = .ok (.invokevirtual 210, 3) := by decide +kernel
theorem d_MD_join_239 : decode prog_20_method_37_code 239 = .ok (.ifCond .eq 27, 3) := by decide +kernel
theorem d_MD_join_242 : decode prog_20_method_37_code 242 = .ok (.aload_n 0, 1) := by decide +kernel
theorem d_MD_join_243 : decode prog_20_method_37_code 243 = .ok (.aload_n 0, 1) := by decide +kernel
theorem d_MD_join_244 : decode prog_20_method_37_code 244 = .ok (.iload 5, 2) := by decide +kernel
theorem d_MD_join_246 : decode prog_20_method_37_code 246 = .ok (.iconst 0, 1) := by decide +kernel
theorem d_MD_join_247 : decode prog_20_method_37_code 247 = .ok (.invokevirtual 207, 3) := by decide +kernel
theorem d_MD_join_250 : decode prog_20_method_37_code 250 = .ok (.iload_n 3, 1) := by decide +kernel
theorem d_MD_join_251 : decode prog_20_method_37_code 251 = .ok (.imul, 1) := by decide +kernel
theorem d_MD_join_252 : decode prog_20_method_37_code 252 = .ok (.aload_n 0, 1) := by decide +kernel
theorem d_MD_join_253 : decode prog_20_method_37_code 253 = .ok (.iload 6, 2) := by decide +kernel
theorem d_MD_join_255 : decode prog_20_method_37_code 255 = .ok (.iconst 0, 1) := by decide +kernel
theorem d_MD_join_256 : decode prog_20_method_37_code 256 = .ok (.invokevirtual 207, 3) := by decide +kernel
theorem d_MD_join_259 : decode prog_20_method_37_code 259 = .ok (.iadd, 1) := by decide +kernel
theorem d_MD_join_260 : decode prog_20_method_37_code 260 = .ok (.invokevirtual 121, 3) := by decide +kernel
theorem d_MD_join_263 : decode prog_20_method_37_code 263 = .ok (.goto 31, 3) := by decide +kernel
theorem d_MD_join_266 : decode prog_20_method_37_code 266 = .ok (.iload 7, 2) := by decide +kernel
theorem d_MD_join_268 : decode prog_20_method_37_code 268 = .ok (.ifCond .eq 13, 3) := by decide +kernel
theorem d_MD_join_271 : decode prog_20_method_37_code 271 = .ok (.aload_n 0, 1) := by decide +kernel
theorem d_MD_join_272 : decode prog_20_method_37_code 272 = .ok (.iload 5, 2) := by decide +kernel
theorem d_MD_join_274 : decode prog_20_method_37_code 274 = .ok (.iconst 0, 1) := by decide +kernel
theorem d_MD_join_275 : decode prog_20_method_37_code 275 = .ok (.invokevirtual 207, 3) := by decide +kernel
theorem d_MD_join_278 : decode prog_20_method_37_code 278 = .ok (.goto 16, 3) := by decide +kernel
theorem d_MD_join_281 : decode prog_20_method_37_code 281 = .ok (.aload_n 0, 1) := by decide +kernel
theorem d_MD_join_282 : decode prog_20_method_37_code 282 = .ok (.bipush 7, 2) := by decide +kernel
theorem d_MD_join_284 : decode prog_20_method_37_code 284 = .ok (.iload 5, 2) := by decide +kernel
theorem d_MD_join_286 : decode prog_20_method_37_code 286 = .ok (.iload 6, 2) := by decide +kernel
theorem d_MD_join_288 : decode prog_20_method_37_code 288 = .ok (.iload_n 3, 1) := by decide +kernel
theorem d_MD_join_289 : decode prog_20_method_37_code 289 = .ok (.iconst 0, 1) := by decide +kernel
theorem d_MD_join_290 : decode prog_20_method_37_code 290 = .ok (.iconst 0, 1) := by decide +kernel
theorem d_MD_join_291 : decode prog_20_method_37_code 291 = .ok (.invokevirtual 124, 3) := by decide +kernel
theorem d_MD_join_294 : decode prog_20_method_37_code 294 = .ok (.iastore, 1) := by decide +kernel
theorem d_MD_join_295 : decode prog_20_method_37_code 295 = .ok (.aload_n 0, 1) := by decide +kernel
theorem d_MD_join_296 : decode prog_20_method_37_code 296 = .ok (.iload_n 2, 1) := by decide +kernel
theorem d_MD_join_297 : decode prog_20_method_37_code 297 = .ok (.invokevirtual 203, 3) := by decide +kernel
theorem d_MD_join_300 : decode prog_20_method_37_code 300 = .ok (.return_, 1) := by decide +kernel
theorem d_MD_plain_0 : decode prog_20_method_38_code 0 = .ok (.aload_n 0, 1) := by decide +kernel
theorem d_MD_plain_1 : decode prog_20_method_38_code 1 = .ok (.iload_n 1, 1) := by decide +kernel
theorem d_MD_plain_2 : decode prog_20_method_38_code 2 = .ok (.aload 8, 2) := by decide +kernel
theorem d_MD_plain_4 : decode prog_20_method_38_code 4 = .ok (.iconst 0, 1) := by decide +kernel
theorem d_MD_plain_5 : decode prog_20_method_38_code 5 = .ok (.invokestatic 128, 3) := by decide +kernel
theorem d_MD_plain_8 : decode prog_20_method_38_code 8 = .ok (.iload_n 2, 1) := by decide +kernel
theorem d_MD_plain_9 : decode prog_20_method_38_code 9 = .ok (.bipush 6, 2) := by decide +kernel
theorem d_MD_plain_11 : decode prog_20_method_38_code 11 = .ok (.if_icmp .ne 57, 3) := by decide +kernel
theorem d_MD_plain_14 : decode prog_20_method_38_code 14 = .ok (.aload_n 0, 1) := by decide +kernel
theorem d_MD_plain_15 : decode prog_20_method_38_code 15 = .ok (.iload_n 1, 1) := by decide +kernel
theorem d_MD_plain_16 : decode prog_20_method_38_code 16 = .ok (.iconst 1, 1) := by decide +kernel
theorem d_MD_plain_17 : decode prog_20_method_38_code 17 = .ok (.iadd, 1) := by decide +kernel
theorem d_MD_plain_18 : decode prog_20_method_38_code 18 = .ok (.iaload, 1) := by decide +kernel
theorem d_MD_plain_19 : decode prog_20_method_38_code 19 = .ok (.i2l, 1) := by decide +kernel
theorem d_MD_plain_20 : decode prog_20_method_38_code 20 = .ok (.lstore 9, 2) := by decide +kernel
theorem d_MD_plain_22 : decode prog_20_method_38_code 22 = .ok (.aload 8, 2) := by decide +kernel
theorem d_MD_plain_24 : decode prog_20_method_38_code 24 = .ok (.iconst 1, 1) := by decide +kernel
theorem d_MD_plain_25 : decode prog_20_method_38_code 25 = .ok (.iload 5, 2) := by decide +kernel
theorem d_MD_plain_27 : decode prog_20_method_38_code 27 = .ok (.ifCond .eq 18, 3) := by decide +kernel
theorem d_MD_plain_30 : decode prog_20_method_38_code 30 = .ok (.iload_n 3, 1) := by decide +kernel
theorem d_MD_plain_31 : decode prog_20_method_38_code 31 = .ok (.i2l, 1) := by decide +kernel
theorem d_MD_plain_32 : decode prog_20_method_38_code 32 = .ok (.lload 9, 2) := by decide +kernel
theorem d_MD_plain_34 : decode prog_20_method_38_code 34 = .ok (.lmul, 1) := by decide +kernel
theorem d_MD_plain_35 : decode prog_20_method_38_code 35 = .ok (.iload 4, 2) := by decide +kernel
theorem d_MD_plain_37 : decode prog_20_method_38_code 37 = .ok (.i2l, 1) := by decide +kernel
theorem d_MD_plain_38 : decode prog_20_method_38_code 38 = .ok (.invokestatic 184, 3) := by decide +kernel
theorem d_MD_plain_41 : decode prog_20_method_38_code 41 = .ok (.l2i, 1) := by decide +kernel
theorem d_MD_plain_42 : decode prog_20_method_38_code 42 = .ok (.goto 22, 3) := by decide +kernel
theorem d_MD_plain_45 : decode prog_20_method_38_code 45 = .ok (.iload 4, 2) := by decide +kernel
theorem d_MD_plain_47 : decode prog_20_method_38_code 47 = .ok (.i2l, 1) := by decide +kernel
theorem d_MD_plain_48 : decode prog_20_method_38_code 48 = .ok (.lload 9, 2) := by decide +kernel
theorem d_MD_plain_50 : decode prog_20_method_38_code 50 = .ok (.lmul, 1) := by decide +kernel
theorem d_MD_plain_51 : decode prog_20_method_38_code 51 = .ok (.iload_n 3, 1) := by decide +kernel
theorem d_MD_plain_52 : decode prog_20_method_38_code 52 = .ok (.i2l, 1) := by decide +kernel
theorem d_MD_plain_53 : decode prog_20_method_38_code 53 = .ok (.invokestatic 184, 3) := by decide +kernel
theorem d_MD_plain_56 : decode prog_20_method_38_code 56 = .ok (.iload 6, 2) := by decide +kernel
theorem d_MD_plain_58 : decode prog_20_method_38_code 58 = .ok (.iload 7, 2) := by decide +kernel
theorem d_MD_plain_60 : decode prog_20_method_38_code 60 = .ok (.invokestatic 218, 3) := by decide +kernel
theorem d_MD_plain_63 : decode prog_20_method_38_code 63 = .ok (.l2i, 1) := by decide +kernel
theorem d_MD_plain_64 : decode prog_20_method_38_code 64 = .ok (.iastore, 1) := by decide +kernel
theorem d_MD_plain_65 : decode prog_20_method_38_code 65 = .ok (.goto 126, 3) := by decide +kernel
theorem d_MD_plain_68 : decode prog_20_method_38_code 68 = .ok (.iload_n 2, 1) := by decide +kernel
theorem d_MD_plain_69 : decode prog_20_method_38_code 69 = .ok (.bipush 7, 2) := by decide +kernel
theorem d_MD_plain_71 : decode prog_20_method_38_code 71 = .ok (.if_icmp .ne 32, 3) := by decide +kernel
theorem d_MD_plain_74 : decode prog_20_method_38_code 74 = .ok (.iload 5, 2) := by decide +kernel
theorem d_MD_plain_76 : decode prog_20_method_38_code 76 = .ok (.ifCond .eq 27, 3) := by decide +kernel
theorem d_MD_plain_79 : decode prog_20_method_38_code 79 = .ok (.aload 8, 2) := by decide +kernel
theorem d_MD_plain_81 : decode prog_20_method_38_code 81 = .ok (.iconst 1, 1) := by decide +kernel
theorem d_MD_plain_82 : decode prog_20_method_38_code 82 = .ok (.aload 8, 2) := by decide +kernel
theorem d_MD_plain_84 : decode prog_20_method_38_code 84 = .ok (.iconst 1, 1) := by decide +kernel
theorem d_MD_plain_85 : decode prog_20_method_38_code 85 = .ok (.iaload, 1) := by decide +kernel
theorem d_MD_plain_86 : decode prog_20_method_38_code 86 = .ok (.iload_n 3, 1) := by decide +kernel
theorem d_MD_plain_87 : decode prog_20_method_38_code 87 = .ok (.if_icmp .ne 8, 3) := by decide +kernel
theorem d_MD_plain_90 : decode prog_20_method_38_code 90 = .ok (.iload 4, 2) := by decide +kernel
theorem d_MD_plain_92 : decode prog_20_method_38_code 92 = .ok (.goto 7, 3) := by decide +kernel
theorem d_MD_plain_95 : decode prog_20_method_38_code 95 = .ok (.aload 8, 2) := by decide +kernel
theorem d_MD_plain_97 : decode prog_20_method_38_code 97 = .ok (.iconst 1, 1) := by decide +kernel
theorem d_MD_plain_98 : decode prog_20_method_38_code 98 = .ok (.iaload, 1) := by decide +kernel
theorem d_MD_plain_99 : decode prog_20_method_38_code 99 = .ok (.iastore, 1) := by decide +kernel
theorem d_MD_plain_100 : decode prog_20_method_38_code 100 = .ok (.goto 91, 3) := by decide +kernel
theorem d_MD_plain_103 : decode prog_20_method_38_code 103 = .ok (.iload_n 2, 1) := by decide +kernel
theorem d_MD_plain_104 : decode prog_20_method_38_code 104 = .ok (.bipush 8, 2) := by decide +kernel
theorem d_MD_plain_106 : decode prog_20_method_38_code 106 = .ok (.if_icmp .ne 85, 3) := by decide +kernel
theorem d_MD_plain_109 : decode prog_20_method_38_code 109 = .ok (.iload 5, 2) := by decide +kernel
theorem d_MD_plain_111 : decode prog_20_method_38_code 111 = .ok (.ifCond .eq 80, 3) := by decide +kernel
theorem d_MD_plain_114 : decode prog_20_method_38_code 114 = .ok (.iconst 2, 1) := by decide +kernel
theorem d_MD_plain_115 : decode prog_20_method_38_code 115 = .ok (.istore 9, 2) := by decide +kernel
theorem d_MD_plain_117 : decode prog_20_method_38_code 117 = .ok (.iload 9, 2) := by decide +kernel
theorem d_MD_plain_119 : decode prog_20_method_38_code 119 = .ok (.aload 8, 2) := by decide +kernel
theorem d_MD_plain_121 : decode prog_20_method_38_code 121 = .ok (.iconst 0, 1) := by decide +kernel
theorem d_MD_plain_122 : decode prog_20_method_38_code 122 = .ok (.iaload, 1) := by decide +kernel
theorem d_MD_plain_123 : decode prog_20_method_38_code 123 = .ok (.if_icmp .gt 68, 3) := by decide +kernel
theorem d_MD_plain_126 : decode prog_20_method_38_code 126 = .ok (.iload 9, 2) := by decide +kernel
theorem d_MD_plain_128 : decode prog_20_method_38_code 128 = .ok (.istore 10, 2) := by decide +kernel
theorem d_MD_plain_130 : decode prog_20_method_38_code 130 = .ok (.iload 10, 2) := by decide +kernel
theorem d_MD_plain_132 : decode prog_20_method_38_code 132 = .ok (.iconst 1, 1) := by decide +kernel
theorem d_MD_plain_133 : decode prog_20_method_38_code 133 = .ok (.if_icmp .le 52, 3) := by decide +kernel
theorem d_MD_plain_136 : decode prog_20_method_38_code 136 = .ok (.aload 8, 2) := by decide +kernel
theorem d_MD_plain_138 : decode prog_20_method_38_code 138 = .ok (.iload 10, 2) := by decide +kernel
theorem d_MD_plain_140 : decode prog_20_method_38_code 140 = .ok (.iaload, 1) := by decide +kernel
theorem d_MD_plain_141 : decode prog_20_method_38_code 141 = .ok (.aload 8, 2) := by decide +kernel
theorem d_MD_plain_143 : decode prog_20_method_38_code 143 = .ok (.iload 10, 2) := by decide +kernel
theorem d_MD_plain_145 : decode prog_20_method_38_code 145 = .ok (.iconst 1, 1) := by decide +kernel
theorem d_MD_plain_146 : decode prog_20_method_38_code 146 = .ok (.isub, 1) := by decide +kernel
theorem d_MD_plain_147 : decode prog_20_method_38_code 147 = .ok (.iaload, 1) := by decide +kernel
theorem d_MD_plain_148 : decode prog_20_method_38_code 148 = .ok (.if_icmp .ge 37, 3) := by decide +kernel
theorem d_MD_plain_151 : decode prog_20_method_38_code 151 = .ok (.aload 8, 2) := by decide +kernel
theorem d_MD_plain_153 : decode prog_20_method_38_code 153 = .ok (.iload 10, 2) := by decide +kernel
theorem d_MD_plain_155 : decode prog_20_method_38_code 155 = .ok (.iaload, 1) := by decide +kernel
theorem d_MD_plain_156 : decode prog_20_method_38_code 156 = .ok (.istore 11, 2) := by decide +kernel
theorem d_MD_plain_158 : decode prog_20_method_38_code 158 = .ok (.aload 8, 2) := by decide +kernel
theorem d_MD_plain_160 : decode prog_20_method_38_code 160 = .ok (.iload 10, 2) := by decide +kernel
theorem d_MD_plain_162 : decode prog_20_method_38_code 162 = .ok (.aload 8, 2) := by decide +kernel
theorem d_MD_plain_164 : decode prog_20_method_38_code 164 = .ok (.iload 10, 2) := by decide +kernel
theorem d_MD_plain_166 : decode prog_20_method_38_code 166 = .ok (.iconst 1, 1) := by decide +kernel
theorem d_MD_plain_167 : decode prog_20_method_38_code 167 = .ok (.isub, 1) := by decide +kernel
theorem d_MD_plain_168 : decode prog_20_method_38_code 168 = .ok (.iaload, 1) := by decide +kernel
theorem d_MD_plain_169 : decode prog_20_method_38_code 169 = .ok (.iastore, 1) := by decide +kernel
theorem d_MD_plain_170 : decode prog_20_method_38_code 170 = .ok (.aload 8, 2) := by decide +kernel
theorem d_MD_plain_172 : decode prog_20_method_38_code 172 = .ok (.iload 10, 2) := by decide +kernel
theorem d_MD_plain_174 : decode prog_20_method_38_code 174 = .ok (.iconst 1, 1) := by decide +kernel
theorem d_MD_plain_175 : decode prog_20_method_38_code 175 = .ok (.isub, 1) := by decide +kernel
theorem d_MD_plain_176 : decode prog_20_method_38_code 176 = .ok (.iload 11, 2) := by decide +kernel
theorem d_MD_plain_178 : decode prog_20_method_38_code 178 = .ok (.iastore, 1) := by decide +kernel
theorem d_MD_plain_179 : decode prog_20_method_38_code 179 = .ok (.iinc 10 (-1), 3) := by decide +kernel
theorem d_MD_plain_182 : decode prog_20_method_38_code 182 = .ok (.goto (-52), 3) := by decide +kernel
theorem d_MD_plain_185 : decode prog_20_method_38_code 185 = .ok (.iinc 9 1, 3) := by decide +kernel
theorem d_MD_plain_188 : decode prog_20_method_38_code 188 = .ok (.goto (-71), 3) := by decide +kernel
theorem d_MD_plain_191 : decode prog_20_method_38_code 191 = .ok (.return_, 1) := by decide +kernel
theorem d_MD_change_0 : decode prog_20_method_39_code 0 = .ok (.aload_n 0, 1) := by decide +kernel
theorem d_MD_change_1 : decode prog_20_method_39_code 1 = .ok (.getfield 118, 3) := by decide +kernel
theorem d_MD_change_4 : decode prog_20_method_39_code 4 = .ok (.iconst 2, 1) := by decide +kernel
theorem d_MD_change_5 : decode prog_20_method_39_code 5 = .ok (.if_icmp .ne 45, 3) := by decide +kernel
theorem d_MD_change_8 : decode prog_20_method_39_code 8 = .ok (.aload_n 0, 1) := by decide +kernel
theorem d_MD_change_9 : decode prog_20_method_39_code 9 = .ok (.getfield 68, 3) := by decide +kernel
theorem d_MD_change_12 : decode prog_20_method_39_code 12 = .ok (.iload_n 1, 1) := by decide +kernel
theorem d_MD_change_13 : decode prog_20_method_39_code 13 = .ok (.aload_n 0, 1) := by decide +kernel
theorem d_MD_change_14 : decode prog_20_method_39_code 14 = .ok (.aload_n 0, 1) := by decide +kernel
theorem d_MD_change_15 : decode prog_20_method_39_code 15 = .ok (.getfield 68, 3) := by decide +kernel
theorem d_MD_change_18 : decode prog_20_method_39_code 18 = .ok (.iload_n 1, 1) := by decide +kernel
theorem d_MD_change_19 : decode prog_20_method_39_code 19 = .ok (.iaload, 1) := by decide +kernel
theorem d_MD_change_20 : decode prog_20_method_39_code 20 = .ok (.iload_n 2, 1) := by decide +kernel
theorem d_MD_change_21 : decode prog_20_method_39_code 21 = .ok (.iload_n 3, 1) := by decide +kernel
theorem d_MD_change_22 : decode prog_20_method_39_code 22 = .ok (.iload 4, 2) := by decide +kernel
theorem d_MD_change_24 : decode prog_20_method_39_code 24 = .ok (.iload 5, 2) := by decide +kernel
theorem d_MD_change_26 : decode prog_20_method_39_code 26 = .ok (.aload_n 0, 1) := by decide +kernel
theorem d_MD_change_27 : decode prog_20_method_39_code 27 = .ok (.getfield 38, 3) := by decide +kernel
theorem d_MD_change_30 : decode prog_20_method_39_code 30 = .ok (.iload 7, 2) := by decide +kernel
theorem d_MD_change_32 : decode prog_20_method_39_code 32 = .ok (.bipush 6, 2) := by decide +kernel
theorem d_MD_change_34 : decode prog_20_method_39_code 34 = .ok (.iadd, 1) := by decide +kernel
theorem d_MD_change_35 : decode prog_20_method_39_code 35 = .ok (.iaload, 1) := by decide +kernel
theorem d_MD_change_36 : decode prog_20_method_39_code 36 = .ok (.aload_n 0, 1) := by decide +kernel
theorem d_MD_change_37 : decode prog_20_method_39_code 37 = .ok (.getfield 38, 3) := by decide +kernel
theorem d_MD_change_40 : decode prog_20_method_39_code 40 = .ok (.iload 7, 2) := by decide +kernel
theorem d_MD_change_42 : decode prog_20_method_39_code 42 = .ok (.bipush 7, 2) := by decide +kernel
theorem d_MD_change_44 : decode prog_20_method_39_code 44 = .ok (.iadd, 1) := by decide +kernel
theorem d_MD_change_45 : decode prog_20_method_39_code 45 = .ok (.iaload, 1) := by decide +kernel
theorem d_MD_change_46 : decode prog_20_method_39_code 46 = .ok (.invokevirtual 222, 3) := by decide +kernel
theorem d_MD_change_49 : decode prog_20_method_39_code 49 = .ok (.iastore, 1) := by decide +kernel
theorem d_MD_change_50 : decode prog_20_method_39_code 50 = .ok (.aload_n 0, 1) := by decide +kernel
theorem d_MD_change_51 : decode prog_20_method_39_code 51 = .ok (.getfield 118, 3) := by decide +kernel
theorem d_MD_change_54 : decode prog_20_method_39_code 54 = .ok (.iconst 1, 1) := by decide +kernel
theorem d_MD_change_55 : decode prog_20_method_39_code 55 = .ok (.if_icmp .eq 4, 3) := by decide +kernel
theorem d_MD_change_58 : decode prog_20_method_39_code 58 = .ok (.return_, 1) := by decide +kernel
theorem d_MD_change_59 : decode prog_20_method_39_code 59 = .ok (.aload_n 0, 1) := by decide +kernel
theorem d_MD_change_60 : decode prog_20_method_39_code 60 = .ok (.getfield 71, 3) := by decide +kernel
theorem d_MD_change_63 : decode prog_20_method_39_code 63 = .ok (.iload 6, 2) := by decide +kernel
theorem d_MD_change_65 : decode prog_20_method_39_code 65 = .ok (.iaload, 1) := by decide +kernel
theorem d_MD_change_66 : decode prog_20_method_39_code 66 = .ok (.istore 8, 2) := by decide +kernel
theorem d_MD_change_68 : decode prog_20_method_39_code 68 = .ok (.bipush 14, 2) := by decide +kernel
theorem d_MD_change_70 : decode prog_20_method_39_code 70 = .ok (.iload 6, 2) := by decide +kernel
theorem d_MD_change_72 : decode prog_20_method_39_code 72 = .ok (.imul, 1) := by decide +kernel
theorem d_MD_change_73 : decode prog_20_method_39_code 73 = .ok (.istore 9, 2) := by decide +kernel
theorem d_MD_change_75 : decode prog_20_method_39_code 75 = .ok (.aload_n 0, 1) := by decide +kernel
theorem d_MD_change_76 : decode prog_20_method_39_code 76 = .ok (.getfield 71, 3) := by decide +kernel
theorem d_MD_change_79 : decode prog_20_method_39_code 79 = .ok (.iload 6, 2) := by decide +kernel
theorem d_MD_change_81 : decode prog_20_method_39_code 81 = .ok (.iconst 0, 1) := by decide +kernel
theorem d_MD_change_82 : decode prog_20_method_39_code 82 = .ok (.iastore, 1) := by decide +kernel
theorem d_MD_change_83 : decode prog_20_method_39_code 83 = .ok (.iload 8, 2) := by decide +kernel
theorem d_MD_change_85 : decode prog_20_method_39_code 85 = .ok (.iload 5, 2) := by decide +kernel
theorem d_MD_change_87 : decode prog_20_method_39_code 87 = .ok (.ifCond .eq 7, 3) := by decide +kernel
theorem d_MD_change_90 : decode prog_20_method_39_code 90 = .ok (.iconst 3, 1) := by decide +kernel
theorem d_MD_change_91 : decode prog_20_method_39_code 91 = .ok (.goto 4, 3) := by decide +kernel
theorem d_MD_change_94 : decode prog_20_method_39_code 94 = .ok (.iconst 2, 1) := by decide +kernel
theorem d_MD_change_95 : decode prog_20_method_39_code 95 = .ok (.if_icmp .ne 44, 3) := by decide +kernel
theorem d_MD_change_98 : decode prog_20_method_39_code 98 = .ok (.aload_n 0, 1) := by decide +kernel
theorem d_MD_change_99 : decode prog_20_method_39_code 99 = .ok (.getfield 65, 3) := by decide +kernel
theorem d_MD_change_102 : decode prog_20_method_39_code 102 = .ok (.bipush 7, 2) := by decide +kernel
theorem d_MD_change_104 : decode prog_20_method_39_code 104 = .ok (.iload_n 1, 1) := by decide +kernel
theorem d_MD_change_105 : decode prog_20_method_39_code 105 = .ok (.imul, 1) := by decide +kernel
theorem d_MD_change_106 : decode prog_20_method_39_code 106 = .ok (.aload_n 0, 1) := by decide +kernel
theorem d_MD_change_107 : decode prog_20_method_39_code 107 = .ok (.getfield 74, 3) := by decide +kernel
theorem d_MD_change_110 : decode prog_20_method_39_code 110 = .ok (.iload 9, 2) := by decide +kernel
theorem d_MD_change_112 : decode prog_20_method_39_code 112 = .ok (.bipush 7, 2) := by decide +kernel
theorem d_MD_change_114 : decode prog_20_method_39_code 114 = .ok (.iadd, 1) := by decide +kernel
theorem d_MD_change_115 : decode prog_20_method_39_code 115 = .ok (.invokestatic 226, 3) := by decide +kernel
theorem d_MD_change_118 : decode prog_20_method_39_code 118 = .ok (.ifCond .eq 21, 3) := by decide +kernel
theorem d_MD_change_121 : decode prog_20_method_39_code 121 = .ok (.aload_n 0, 1) := by decide +kernel
theorem d_MD_change_122 : decode prog_20_method_39_code 122 = .ok (.getfield 74, 3) := by decide +kernel
theorem d_MD_change_125 : decode prog_20_method_39_code 125 = .ok (.iload 9, 2) := by decide +kernel
theorem d_MD_change_127 : decode prog_20_method_39_code 127 = .ok (.aload_n 0, 1) := by decide +kernel
theorem d_MD_change_128 : decode prog_20_method_39_code 128 = .ok (.getfield 65, 3) := by decide +kernel
theorem d_MD_change_131 : decode prog_20_method_39_code 131 = .ok (.bipush 7, 2) := by decide +kernel
theorem d_MD_change_133 : decode prog_20_method_39_code 133 = .ok (.iload_n 1, 1) := by decide +kernel
theorem d_MD_change_134 : decode prog_20_method_39_code 134 = .ok (.imul, 1) := by decide +kernel
theorem d_MD_change_135 : decode prog_20_method_39_code 135 = .ok (.invokestatic 128, 3) := by decide +kernel
theorem d_MD_change_138 : decode prog_20_method_39_code 138 = .ok (.return_, 1) := by decide +kernel
theorem d_MD_change_139 : decode prog_20_method_39_code 139 = .ok (.aload_n 0, 1) := by decide +kernel
theorem d_MD_change_140 : decode prog_20_method_39_code 140 = .ok (.getfield 65, 3) := by decide +kernel
theorem d_MD_change_143 : decode prog_20_method_39_code 143 = .ok (.bipush 7, 2) := by decide +kernel
theorem d_MD_change_145 : decode prog_20_method_39_code 145 = .ok (.iload_n 1, 1) := by decide +kernel
theorem d_MD_change_146 : decode prog_20_method_39_code 146 = .ok (.imul, 1) := by decide +kernel
theorem d_MD_change_147 : decode prog_20_method_39_code 147 = .ok (.iload_n 2, 1) := by decide +kernel
theorem d_MD_change_148 : decode prog_20_method_39_code 148 = .ok (.iload_n 3, 1) := by decide +kernel
theorem d_MD_change_149 : decode prog_20_method_39_code 149 = .ok (.iload 4, 2) := by decide +kernel
theorem d_MD_change_151 : decode prog_20_method_39_code 151 = .ok (.iload 5, 2) := by decide +kernel
theorem d_MD_change_153 : decode prog_20_method_39_code 153 = .ok (.aload_n 0, 1) := by decide +kernel
theorem d_MD_change_154 : decode prog_20_method_39_code 154 = .ok (.getfield 38, 3) := by decide +kernel
theorem d_MD_change_157 : decode prog_20_method_39_code 157 = .ok (.iload 7, 2) := by decide +kernel
theorem d_MD_change_159 : decode prog_20_method_39_code 159 = .ok (.bipush 6, 2) := by decide +kernel
theorem d_MD_change_161 : decode prog_20_method_39_code 161 = .ok (.iadd, 1) := by decide +kernel
theorem d_MD_change_162 : decode prog_20_method_39_code 162 = .ok (.iaload, 1) := by decide +kernel
theorem d_MD_change_163 : decode prog_20_method_39_code 163 = .ok (.aload_n 0, 1) := by decide +kernel
theorem d_MD_change_164 : decode prog_20_method_39_code 164 = .ok (.getfield 38, 3) := by decide +kernel
theorem d_MD_change_167 : decode prog_20_method_39_code 167 = .ok (.iload 7, 2) := by decide +kernel
theorem d_MD_change_169 : decode prog_20_method_39_code 169 = .ok (.bipush 7, 2) := by decide +kernel
theorem d_MD_change_171 : decode prog_20_method_39_code 171 = .ok (.iadd, 1) := by decide +kernel
theorem d_MD_change_172 : decode prog_20_method_39_code 172 = .ok (.iaload, 1) := by decide +kernel
theorem d_MD_change_173 : decode prog_20_method_39_code 173 = .ok (.aload_n 0, 1) := by decide +kernel
theorem d_MD_change_174 : decode prog_20_method_39_code 174 = .ok (.getfield 95, 3) := by decide +kernel
theorem d_MD_change_177 : decode prog_20_method_39_code 177 = .ok (.invokestatic 230, 3) := by decide +kernel
theorem d_MD_change_180 : decode prog_20_method_39_code 180 = .ok (.aload_n 0, 1) := by decide +kernel
theorem d_MD_change_181 : decode prog_20_method_39_code 181 = .ok (.getfield 95, 3) := by decide +kernel
theorem d_MD_change_184 : decode prog_20_method_39_code 184 = .ok (.iconst 0, 1) := by decide +kernel
theorem d_MD_change_185 : decode prog_20_method_39_code 185 = .ok (.iload_n 2, 1) := by decide +kernel
theorem d_MD_change_186 : decode prog_20_method_39_code 186 = .ok (.iload_n 3, 1) := by decide +kernel
theorem d_MD_change_187 : decode prog_20_method_39_code 187 = .ok (.iload 4, 2) := by decide +kernel
theorem d_MD_change_189 : decode prog_20_method_39_code 189 = .ok (.iload 5, 2) := by decide +kernel
theorem d_MD_change_191 : decode prog_20_method_39_code 191 = .ok (.ifCond .ne 7, 3) := by decide +kernel
theorem d_MD_change_194 : decode prog_20_method_39_code 194 = .ok (.iconst 1, 1) := by decide +kernel
theorem d_MD_change_195 : decode prog_20_method_39_code 195 = .ok (.goto 4, 3) := by decide +kernel
theorem d_MD_change_198 : decode prog_20_method_39_code 198 = .ok (.iconst 0, 1) := by decide +kernel
theorem d_MD_change_199 : decode prog_20_method_39_code 199 = .ok (.aload_n 0, 1) := by decide +kernel
theorem d_MD_change_200 : decode prog_20_method_39_code 200 = .ok (.getfield 38, 3) := by decide +kernel
theorem d_MD_change_203 : decode prog_20_method_39_code 203 = .ok (.iload 7, 2) := by decide +kernel
theorem d_MD_change_205 : decode prog_20_method_39_code 205 = .ok (.bipush 6, 2) := by decide +kernel
theorem d_MD_change_207 : decode prog_20_method_39_code 207 = .ok (.iadd, 1) := by decide +kernel
theorem d_MD_change_208 : decode prog_20_method_39_code 208 = .ok (.iaload, 1) := by decide +kernel
theorem d_MD_change_209 : decode prog_20_method_39_code 209 = .ok (.aload_n 0, 1) := by decide +kernel
theorem d_MD_change_210 : decode prog_20_method_39_code 210 = .ok (.getfield 38, 3) := by decide +kernel
theorem d_MD_change_213 : decode prog_20_method_39_code 213 = .ok (.iload 7, 2) := by decide +kernel
theorem d_MD_change_215 : decode prog_20_method_39_code 215 = .ok (.bipush 7, 2) := by decide +kernel
theorem d_MD_change_217 : decode prog_20_method_39_code 217 = .ok (.iadd, 1) := by decide +kernel
theorem d_MD_change_218 : decode prog_20_method_39_code 218 = .ok (.iaload, 1) := by decide +kernel
theorem d_MD_change_219 : decode prog_20_method_39_code 219 = .ok (.aload_n 0, 1) := by decide +kernel
theorem d_MD_change_220 : decode prog_20_method_39_code 220 = .ok (.getfield 98, 3) := by decide +kernel
theorem d_MD_change_223 : decode prog_20_method_39_code 223 = .ok (.invokestatic 230, 3) := by decide +kernel
theorem d_MD_change_226 : decode prog_20_method_39_code 226 = .ok (.aload_n 0, 1) := by decide +kernel
theorem d_MD_change_227 : decode prog_20_method_39_code 227 = .ok (.getfield 98, 3) := by decide +kernel
theorem d_MD_change_230 : decode prog_20_method_39_code 230 = .ok (.iconst 0, 1) := by decide +kernel
theorem d_MD_change_231 : decode prog_20_method_39_code 231 = .ok (.aload_n 0, 1) := by decide +kernel
theorem d_MD_change_232 : decode prog_20_method_39_code 232 = .ok (.getfield 65, 3) := by decide +kernel
theorem d_MD_change_235 : decode prog_20_method_39_code 235 = .ok (.bipush 7, 2) := by decide +kernel
theorem d_MD_change_237 : decode prog_20_method_39_code 237 = .ok (.iload_n 1, 1) := by decide +kernel
theorem d_MD_change_238 : decode prog_20_method_39_code 238 = .ok (.imul, 1) := by decide +kernel
theorem d_MD_change_239 : decode prog_20_method_39_code 239 = .ok (.invokestatic 226, 3) := by decide +kernel
theorem d_MD_change_242 : decode prog_20_method_39_code 242 = .ok (.ifCond .ne 54, 3) := by decide +kernel
theorem d_MD_change_245 : decode prog_20_method_39_code 245 = .ok (.aload_n 0, 1) := by decide +kernel
theorem d_MD_change_246 : decode prog_20_method_39_code 246 = .ok (.getfield 71, 3) := by decide +kernel
theorem d_MD_change_249 : decode prog_20_method_39_code 249 = .ok (.iload 6, 2) := by decide +kernel
theorem d_MD_change_251 : decode prog_20_method_39_code 251 = .ok (.iload 5, 2) := by decide +kernel
theorem d_MD_change_253 : decode prog_20_method_39_code 253 = .ok (.ifCond .eq 7, 3) := by decide +kernel
theorem d_MD_change_256 : decode prog_20_method_39_code 256 = .ok (.iconst 2, 1) := by decide +kernel
theorem d_MD_change_257 : decode prog_20_method_39_code 257 = .ok (.goto 4, 3) := by decide +kernel
theorem d_MD_change_260 : decode prog_20_method_39_code 260 = .ok (.iconst 3, 1) := by decide +kernel
theorem d_MD_change_261 : decode prog_20_method_39_code 261 = .ok (.iastore, 1) := by decide +kernel
theorem d_MD_change_262 : decode prog_20_method_39_code 262 = .ok (.aload_n 0, 1) := by decide +kernel
theorem d_MD_change_263 : decode prog_20_method_39_code 263 = .ok (.getfield 65, 3) := by decide +kernel
theorem d_MD_change_266 : decode prog_20_method_39_code 266 = .ok (.bipush 7, 2) := by decide +kernel
theorem d_MD_change_268 : decode prog_20_method_39_code 268 = .ok (.iload_n 1, 1) := by decide +kernel
theorem d_MD_change_269 : decode prog_20_method_39_code 269 = .ok (.imul, 1) := by decide +kernel
theorem d_MD_change_270 : decode prog_20_method_39_code 270 = .ok (.aload_n 0, 1) := by decide +kernel
theorem d_MD_change_271 : decode prog_20_method_39_code 271 = .ok (.getfield 74, 3) := by decide +kernel
theorem d_MD_change_274 : decode prog_20_method_39_code 274 = .ok (.iload 9, 2) := by decide +kernel
theorem d_MD_change_276 : decode prog_20_method_39_code 276 = .ok (.invokestatic 128, 3) := by decide +kernel
theorem d_MD_change_279 : decode prog_20_method_39_code 279 = .ok (.aload_n 0, 1) := by decide +kernel
theorem d_MD_change_280 : decode prog_20_method_39_code 280 = .ok (.getfield 95, 3) := by decide +kernel
theorem d_MD_change_283 : decode prog_20_method_39_code 283 = .ok (.iconst 0, 1) := by decide +kernel
theorem d_MD_change_284 : decode prog_20_method_39_code 284 = .ok (.aload_n 0, 1) := by decide +kernel
theorem d_MD_change_285 : decode prog_20_method_39_code 285 = .ok (.getfield 74, 3) := by decide +kernel
theorem d_MD_change_288 : decode prog_20_method_39_code 288 = .ok (.iload 9, 2) := by decide +kernel
theorem d_MD_change_290 : decode prog_20_method_39_code 290 = .ok (.bipush 7, 2) := by decide +kernel
theorem d_MD_change_292 : decode prog_20_method_39_code 292 = .ok (.iadd, 1) := by decide +kernel
theorem d_MD_change_293 : decode prog_20_method_39_code 293 = .ok (.invokestatic 128, 3) := by decide +kernel
theorem d_MD_change_296 : decode prog_20_method_39_code 296 = .ok (.aload_n 0, 1) := by decide +kernel
theorem d_MD_change_297 : decode prog_20_method_39_code 297 = .ok (.getfield 95, 3) := by decide +kernel
theorem d_MD_change_300 : decode prog_20_method_39_code 300 = .ok (.iconst 0, 1) := by decide +kernel
theorem d_MD_change_301 : decode prog_20_method_39_code 301 = .ok (.aload_n 0, 1) := by decide +kernel
theorem d_MD_change_302 : decode prog_20_method_39_code 302 = .ok (.getfield 65, 3) := by decide +kernel
theorem d_MD_change_305 : decode prog_20_method_39_code 305 = .ok (.bipush 7, 2) := by decide +kernel
theorem d_MD_change_307 : decode prog_20_method_39_code 307 = .ok (.iload_n 1, 1) := by decide +kernel
theorem d_MD_change_308 : decode prog_20_method_39_code 308 = .ok (.imul, 1) := by decide +kernel
theorem d_MD_change_309 : decode prog_20_method_39_code 309 = .ok (.invokestatic 128, 3) := by decide +kernel
theorem d_MD_change_312 : decode prog_20_method_39_code 312 = .ok (.return_, 1) := by decide +kernel
theorem d_MD_changed_0 : decode prog_20_method_40_code 0 = .ok (.iload_n 2, 1) := by decide +kernel
theorem d_MD_changed_1 : decode prog_20_method_40_code 1 = .ok (.bipush 6, 2) := by decide +kernel
theorem d_MD_changed_3 : decode prog_20_method_40_code 3 = .ok (.if_icmp .ne 119, 3) := by decide +kernel
theorem d_MD_changed_6 : decode prog_20_method_40_code 6 = .ok (.iload_n 3, 1) := by decide +kernel
theorem d_MD_changed_7 : decode prog_20_method_40_code 7 = .ok (.iload 4, 2) := by decide +kernel
theorem d_MD_changed_9 : decode prog_20_method_40_code 9 = .ok (.if_icmp .ne 5, 3) := by decide +kernel
theorem d_MD_changed_12 : decode prog_20_method_40_code 12 = .ok (.iload_n 1, 1) := by decide +kernel
theorem d_MD_changed_13 : decode prog_20_method_40_code 13 = .ok (.ireturn, 1) := by decide +kernel
theorem d_MD_changed_14 : decode prog_20_method_40_code 14 = .ok (.aload_n 0, 1) := by decide +kernel
theorem d_MD_changed_15 : decode prog_20_method_40_code 15 = .ok (.iload_n 1, 1) := by decide +kernel
theorem d_MD_changed_16 : decode prog_20_method_40_code 16 = .ok (.invokevirtual 210, 3) := by decide +kernel
theorem d_MD_changed_19 : decode prog_20_method_40_code 19 = .ok (.ifCond .eq 13, 3) := by decide +kernel
theorem d_MD_changed_22 : decode prog_20_method_40_code 22 = .ok (.aload_n 0, 1) := by decide +kernel
theorem d_MD_changed_23 : decode prog_20_method_40_code 23 = .ok (.iload_n 1, 1) := by decide +kernel
theorem d_MD_changed_24 : decode prog_20_method_40_code 24 = .ok (.iconst 0, 1) := by decide +kernel
theorem d_MD_changed_25 : decode prog_20_method_40_code 25 = .ok (.invokevirtual 207, 3) := by decide +kernel
theorem d_MD_changed_28 : decode prog_20_method_40_code 28 = .ok (.i2l, 1) := by decide +kernel
theorem d_MD_changed_29 : decode prog_20_method_40_code 29 = .ok (.goto 4, 3) := by decide +kernel
theorem d_MD_changed_32 : decode prog_20_method_40_code 32 = .ok (.lconst 0, 1) := by decide +kernel
theorem d_MD_changed_33 : decode prog_20_method_40_code 33 = .ok (.lstore 8, 2) := by decide +kernel
theorem d_MD_changed_35 : decode prog_20_method_40_code 35 = .ok (.aload_n 0, 1) := by decide +kernel
theorem d_MD_changed_36 : decode prog_20_method_40_code 36 = .ok (.iload_n 1, 1) := by decide +kernel
theorem d_MD_changed_37 : decode prog_20_method_40_code 37 = .ok (.invokevirtual 210, 3) := by decide +kernel
theorem d_MD_changed_40 : decode prog_20_method_40_code 40 = .ok (.ifCond .eq 47, 3) := by decide +kernel
theorem d_MD_changed_43 : decode prog_20_method_40_code 43 = .ok (.aload_n 0, 1) := by decide +kernel
theorem d_MD_changed_44 : decode prog_20_method_40_code 44 = .ok (.iload 5, 2) := by decide +kernel
theorem d_MD_changed_46 : decode prog_20_method_40_code 46 = .ok (.ifCond .eq 18, 3) := by decide +kernel
theorem d_MD_changed_49 : decode prog_20_method_40_code 49 = .ok (.iload_n 3, 1) := by decide +kernel
theorem d_MD_changed_50 : decode prog_20_method_40_code 50 = .ok (.i2l, 1) := by decide +kernel
theorem d_MD_changed_51 : decode prog_20_method_40_code 51 = .ok (.lload 8, 2) := by decide +kernel
theorem d_MD_changed_53 : decode prog_20_method_40_code 53 = .ok (.lmul, 1) := by decide +kernel
theorem d_MD_changed_54 : decode prog_20_method_40_code 54 = .ok (.iload 4, 2) := by decide +kernel
theorem d_MD_changed_56 : decode prog_20_method_40_code 56 = .ok (.i2l, 1) := by decide +kernel
theorem d_MD_changed_57 : decode prog_20_method_40_code 57 = .ok (.invokestatic 184, 3) := by decide +kernel
theorem d_MD_changed_60 : decode prog_20_method_40_code 60 = .ok (.l2i, 1) := by decide +kernel
theorem d_MD_changed_61 : decode prog_20_method_40_code 61 = .ok (.goto 22, 3) := by decide +kernel
theorem d_MD_changed_64 : decode prog_20_method_40_code 64 = .ok (.iload 4, 2) := by decide +kernel
theorem d_MD_changed_66 : decode prog_20_method_40_code 66 = .ok (.i2l, 1) := by decide +kernel
theorem d_MD_changed_67 : decode prog_20_method_40_code 67 = .ok (.lload 8, 2) := by decide +kernel
theorem d_MD_changed_69 : decode prog_20_method_40_code 69 = .ok (.lmul, 1) := by decide +kernel
theorem d_MD_changed_70 : decode prog_20_method_40_code 70 = .ok (.iload_n 3, 1) := by decide +kernel
theorem d_MD_changed_71 : decode prog_20_method_40_code 71 = .ok (.i2l, 1) := by decide +kernel
theorem d_MD_changed_72 : decode prog_20_method_40_code 72 = .ok (.invokestatic 184, 3) := by decide +kernel
theorem d_MD_changed_75 : decode prog_20_method_40_code 75 = .ok (.iload 6, 2) := by decide +kernel
theorem d_MD_changed_77 : decode prog_20_method_40_code 77 = .ok (.iload 7, 2) := by decide +kernel
theorem d_MD_changed_79 : decode prog_20_method_40_code 79 = .ok (.invokestatic 218, 3) := by decide +kernel
theorem d_MD_changed_82 : decode prog_20_method_40_code 82 = .ok (.l2i, 1) := by decide +kernel
theorem d_MD_changed_83 : decode prog_20_method_40_code 83 = .ok (.invokevirtual 121, 3) := by decide +kernel
theorem d_MD_changed_86 : decode prog_20_method_40_code 86 = .ok (.ireturn, 1) := by decide +kernel
theorem d_MD_changed_87 : decode prog_20_method_40_code 87 = .ok (.iload 5, 2) := by decide +kernel
theorem d_MD_changed_89 : decode prog_20_method_40_code 89 = .ok (.ifCond .eq 18, 3) := by decide +kernel
theorem d_MD_changed_92 : decode prog_20_method_40_code 92 = .ok (.aload_n 0, 1) := by decide +kernel
theorem d_MD_changed_93 : decode prog_20_method_40_code 93 = .ok (.bipush 8, 2) := by decide +kernel
theorem d_MD_changed_95 : decode prog_20_method_40_code 95 = .ok (.iload_n 1, 1) := by decide +kernel
theorem d_MD_changed_96 : decode prog_20_method_40_code 96 = .ok (.iload_n 3, 1) := by decide +kernel
theorem d_MD_changed_97 : decode prog_20_method_40_code 97 = .ok (.iload 4, 2) := by decide +kernel
theorem d_MD_changed_99 : decode prog_20_method_40_code 99 = .ok (.iconst 0, 1) := by decide +kernel
theorem d_MD_changed_100 : decode prog_20_method_40_code 100 = .ok (.iconst 0, 1) := by decide +kernel
theorem d_MD_changed_101 : decode prog_20_method_40_code 101 = .ok (.invokevirtual 124, 3) := by decide +kernel
theorem d_MD_changed_104 : decode prog_20_method_40_code 104 = .ok (.goto 17, 3) := by decide +kernel
theorem d_MD_changed_107 : decode prog_20_method_40_code 107 = .ok (.aload_n 0, 1) := by decide +kernel
theorem d_MD_changed_108 : decode prog_20_method_40_code 108 = .ok (.bipush 9, 2) := by decide +kernel
theorem d_MD_changed_110 : decode prog_20_method_40_code 110 = .ok (.iload_n 1, 1) := by decide +kernel
theorem d_MD_changed_111 : decode prog_20_method_40_code 111 = .ok (.iload_n 3, 1) := by decide +kernel
theorem d_MD_changed_112 : decode prog_20_method_40_code 112 = .ok (.iload 4, 2) := by decide +kernel
theorem d_MD_changed_114 : decode prog_20_method_40_code 114 = .ok (.iload 6, 2) := by decide +kernel
theorem d_MD_changed_116 : decode prog_20_method_40_code 116 = .ok (.iload 7, 2) := by decide +kernel
theorem d_MD_changed_118 : decode prog_20_method_40_code 118 = .ok (.invokevirtual 124, 3) := by decide +kernel
theorem d_MD_changed_121 : decode prog_20_method_40_code 121 = .ok (.ireturn, 1) := by decide +kernel
theorem d_MD_changed_122 : decode prog_20_method_40_code 122 = .ok (.iload 5, 2) := by decide +kernel
theorem d_MD_changed_124 : decode prog_20_method_40_code 124 = .ok (.ifCond .ne 5, 3) := by decide +kernel
theorem d_MD_changed_127 : decode prog_20_method_40_code 127 = .ok (.iload_n 1, 1) := by decide +kernel
theorem d_MD_changed_128 : decode prog_20_method_40_code 128 = .ok (.ireturn, 1) := by decide +kernel
theorem d_MD_changed_129 : decode prog_20_method_40_code 129 = .ok (.iload_n 2, 1) := by decide +kernel
theorem d_MD_changed_130 : decode prog_20_method_40_code 130 = .ok (.bipush 7, 2) := by decide +kernel
theorem d_MD_changed_132 : decode prog_20_method_40_code 132 = .ok (.if_icmp .ne 52, 3) := by decide +kernel
theorem d_MD_changed_135 : decode prog_20_method_40_code 135 = .ok (.aload_n 0, 1) := by decide +kernel
theorem d_MD_changed_136 : decode prog_20_method_40_code 136 = .ok (.iload_n 1, 1) := by decide +kernel
theorem d_MD_changed_137 : decode prog_20_method_40_code 137 = .ok (.invokevirtual 210, 3) := by decide +kernel
theorem d_MD_changed_140 : decode prog_20_method_40_code 140 = .ok (.ifCond .eq 31, 3) := by decide +kernel
theorem d_MD_changed_143 : decode prog_20_method_40_code 143 = .ok (.aload_n 0, 1) := by decide +kernel
theorem d_MD_changed_144 : decode prog_20_method_40_code 144 = .ok (.aload_n 0, 1) := by decide +kernel
theorem d_MD_changed_145 : decode prog_20_method_40_code 145 = .ok (.iload_n 1, 1) := by decide +kernel
theorem d_MD_changed_146 : decode prog_20_method_40_code 146 = .ok (.iconst 0, 1) := by decide +kernel
theorem d_MD_changed_147 : decode prog_20_method_40_code 147 = .ok (.invokevirtual 207, 3) := by decide +kernel
theorem d_MD_changed_150 : decode prog_20_method_40_code 150 = .ok (.iload_n 3, 1) := by decide +kernel
theorem d_MD_changed_151 : decode prog_20_method_40_code 151 = .ok (.if_icmp .ne 8, 3) := by decide +kernel
theorem d_MD_changed_154 : decode prog_20_method_40_code 154 = .ok (.iload 4, 2) := by decide +kernel
theorem d_MD_changed_156 : decode prog_20_method_40_code 156 = .ok (.goto 9, 3) := by decide +kernel
theorem d_MD_changed_159 : decode prog_20_method_40_code 159 = .ok (.aload_n 0, 1) := by decide +kernel
theorem d_MD_changed_160 : decode prog_20_method_40_code 160 = .ok (.iload_n 1, 1) := by decide +kernel
theorem d_MD_changed_161 : decode prog_20_method_40_code 161 = .ok (.iconst 0, 1) := by decide +kernel
theorem d_MD_changed_162 : decode prog_20_method_40_code 162 = .ok (.invokevirtual 207, 3) := by decide +kernel
theorem d_MD_changed_165 : decode prog_20_method_40_code 165 = .ok (.invokevirtual 121, 3) := by decide +kernel
theorem d_MD_changed_168 : decode prog_20_method_40_code 168 = .ok (.goto 15, 3) := by decide +kernel
theorem d_MD_changed_171 : decode prog_20_method_40_code 171 = .ok (.aload_n 0, 1) := by decide +kernel
theorem d_MD_changed_172 : decode prog_20_method_40_code 172 = .ok (.bipush 10, 2) := by decide +kernel
theorem d_MD_changed_174 : decode prog_20_method_40_code 174 = .ok (.iload_n 1, 1) := by decide +kernel
theorem d_MD_changed_175 : decode prog_20_method_40_code 175 = .ok (.iload_n 3, 1) := by decide +kernel
theorem d_MD_changed_176 : decode prog_20_method_40_code 176 = .ok (.iload 4, 2) := by decide +kernel
theorem d_MD_changed_178 : decode prog_20_method_40_code 178 = .ok (.iconst 0, 1) := by decide +kernel
theorem d_MD_changed_179 : decode prog_20_method_40_code 179 = .ok (.iconst 0, 1) := by decide +kernel
theorem d_MD_changed_180 : decode prog_20_method_40_code 180 = .ok (.invokevirtual 124, 3) := by decide +kernel
theorem d_MD_changed_183 : decode prog_20_method_40_code 183 = .ok (.ireturn, 1) := by decide +kernel
theorem d_MD_changed_184 : decode prog_20_method_40_code 184 = .ok (.aload_n 0, 1) := by decide +kernel
theorem d_MD_changed_185 : decode prog_20_method_40_code 185 = .ok (.getfield 77, 3) := by decide +kernel
theorem d_MD_changed_188 : decode prog_20_method_40_code 188 = .ok (.iload_n 1, 1) := by decide +kernel
theorem d_MD_changed_189 : decode prog_20_method_40_code 189 = .ok (.iaload, 1) := by decide +kernel
theorem d_MD_changed_190 : decode prog_20_method_40_code 190 = .ok (.iconst 2, 1) := by decide +kernel
theorem d_MD_changed_191 : decode prog_20_method_40_code 191 = .ok (.if_icmp .eq 24, 3) := by decide +kernel
theorem d_MD_changed_194 : decode prog_20_method_40_code 194 = .ok (.aload_n 0, 1) := by decide +kernel
theorem d_MD_changed_195 : decode prog_20_method_40_code 195 = .ok (.getfield 77, 3) := by decide +kernel
theorem d_MD_changed_198 : decode prog_20_method_40_code 198 = .ok (.iload_n 1, 1) := by decide +kernel
theorem d_MD_changed_199 : decode prog_20_method_40_code 199 = .ok (.iaload, 1) := by decide +kernel
theorem d_MD_changed_200 : decode prog_20_method_40_code 200 = .ok (.iconst 3, 1) := by decide +kernel
theorem d_MD_changed_201 : decode prog_20_method_40_code 201 = .ok (.if_icmp .eq 14, 3) := by decide +kernel
theorem d_MD_changed_204 : decode prog_20_method_40_code 204 = .ok (.aload_n 0, 1) := by decide +kernel
theorem d_MD_changed_205 : decode prog_20_method_40_code 205 = .ok (.getfield 77, 3) := by decide +kernel
theorem d_MD_changed_208 : decode prog_20_method_40_code 208 = .ok (.iload_n 1, 1) := by decide +kernel
theorem d_MD_changed_209 : decode prog_20_method_40_code 209 = .ok (.iaload, 1) := by decide +kernel
theorem d_MD_changed_210 : decode prog_20_method_40_code 210 = .ok (.bipush 11, 2) := by decide +kernel
theorem d_MD_changed_212 : decode prog_20_method_40_code 212 = .ok (.if_icmp .ne 7, 3) := by decide +kernel
theorem d_MD_changed_215 : decode prog_20_method_40_code 215 = .ok (.iload_n 1, 1) := by decide +kernel
theorem d_MD_changed_216 : decode prog_20_method_40_code 216 = .ok (.goto 14, 3) := by decide +kernel
theorem d_MD_changed_219 : decode prog_20_method_40_code 219 = .ok (.aload_n 0, 1) := by decide +kernel
theorem d_MD_changed_220 : decode prog_20_method_40_code 220 = .ok (.bipush 11, 2) := by decide +kernel
theorem d_MD_changed_222 : decode prog_20_method_40_code 222 = .ok (.iload_n 1, 1) := by decide +kernel
theorem d_MD_changed_223 : decode prog_20_method_40_code 223 = .ok (.iconst 0, 1) := by decide +kernel
theorem d_MD_changed_224 : decode prog_20_method_40_code 224 = .ok (.iconst 0, 1) := by decide +kernel
theorem d_MD_changed_225 : decode prog_20_method_40_code 225 = .ok (.iconst 0, 1) := by decide +kernel
theorem d_MD_changed_226 : decode prog_20_method_40_code 226 = .ok (.iconst 0, 1) := by decide +kernel
theorem d_MD_changed_227 : decode prog_20_method_40_code 227 = .ok (.invokevirtual 124, 3) := by decide +kernel
theorem d_MD_changed_230 : decode prog_20_method_40_code 230 = .ok (.ireturn, 1) := by decide +kernel
theorem d_MD_field_0 : decode prog_20_method_41_code 0 = .ok (.aload_n 0, 1) := by decide +kernel
theorem d_MD_field_1 : decode prog_20_method_41_code 1 = .ok (.aload_n 0, 1) := by decide +kernel
theorem d_MD_field_2 : decode prog_20_method_41_code 2 = .ok (.getfield 234, 3) := by decide +kernel
theorem d_MD_field_5 : decode prog_20_method_41_code 5 = .ok (.ifCond .ne 14, 3) := by decide +kernel
theorem d_MD_field_8 : decode prog_20_method_41_code 8 = .ok (.aload_n 0, 1) := by decide +kernel
theorem d_MD_field_9 : decode prog_20_method_41_code 9 = .ok (.getfield 13, 3) := by decide +kernel
theorem d_MD_field_12 : decode prog_20_method_41_code 12 = .ok (.iconst 0, 1) := by decide +kernel
theorem d_MD_field_13 : decode prog_20_method_41_code 13 = .ok (.iaload, 1) := by decide +kernel
theorem d_MD_field_14 : decode prog_20_method_41_code 14 = .ok (.bipush 24, 2) := by decide +kernel
theorem d_MD_field_16 : decode prog_20_method_41_code 16 = .ok (.if_icmp .ne 7, 3) := by decide +kernel
theorem d_MD_field_19 : decode prog_20_method_41_code 19 = .ok (.iconst 1, 1) := by decide +kernel
theorem d_MD_field_20 : decode prog_20_method_41_code 20 = .ok (.goto 4, 3) := by decide +kernel
theorem d_MD_field_23 : decode prog_20_method_41_code 23 = .ok (.iconst 0, 1) := by decide +kernel
theorem d_MD_field_24 : decode prog_20_method_41_code 24 = .ok (.putfield 101, 3) := by decide +kernel
theorem d_MD_field_27 : decode prog_20_method_41_code 27 = .ok (.aload_n 0, 1) := by decide +kernel
theorem d_MD_field_28 : decode prog_20_method_41_code 28 = .ok (.getfield 101, 3) := by decide +kernel
theorem d_MD_field_31 : decode prog_20_method_41_code 31 = .ok (.ifCond .le 5, 3) := by decide +kernel
theorem d_MD_field_34 : decode prog_20_method_41_code 34 = .ok (.iconst 0, 1) := by decide +kernel
theorem d_MD_field_35 : decode prog_20_method_41_code 35 = .ok (.ireturn, 1) := by decide +kernel
theorem d_MD_field_36 : decode prog_20_method_41_code 36 = .ok (.aload_n 0, 1) := by decide +kernel
theorem d_MD_field_37 : decode prog_20_method_41_code 37 = .ok (.iconst 0, 1) := by decide +kernel
theorem d_MD_field_38 : decode prog_20_method_41_code 38 = .ok (.putfield 118, 3) := by decide +kernel
theorem d_MD_field_41 : decode prog_20_method_41_code 41 = .ok (.aload_n 0, 1) := by decide +kernel
theorem d_MD_field_42 : decode prog_20_method_41_code 42 = .ok (.iconst 0, 1) := by decide +kernel
theorem d_MD_field_43 : decode prog_20_method_41_code 43 = .ok (.invokevirtual 237, 3) := by decide +kernel
theorem d_MD_field_46 : decode prog_20_method_41_code 46 = .ok (.aload_n 0, 1) := by decide +kernel
theorem d_MD_field_47 : decode prog_20_method_41_code 47 = .ok (.aload_n 0, 1) := by decide +kernel
theorem d_MD_field_48 : decode prog_20_method_41_code 48 = .ok (.iload_n 1, 1) := by decide +kernel
theorem d_MD_field_49 : decode prog_20_method_41_code 49 = .ok (.iload_n 2, 1) := by decide +kernel
theorem d_MD_field_50 : decode prog_20_method_41_code 50 = .ok (.iload_n 3, 1) := by decide +kernel
theorem d_MD_field_51 : decode prog_20_method_41_code 51 = .ok (.iload 4, 2) := by decide +kernel
theorem d_MD_field_53 : decode prog_20_method_41_code 53 = .ok (.invokevirtual 240, 3) := by decide +kernel
theorem d_MD_field_56 : decode prog_20_method_41_code 56 = .ok (.ifCond .eq 7, 3) := by decide +kernel
theorem d_MD_field_59 : decode prog_20_method_41_code 59 = .ok (.iconst 0, 1) := by decide +kernel
theorem d_MD_field_60 : decode prog_20_method_41_code 60 = .ok (.goto 4, 3) := by decide +kernel
theorem d_MD_field_63 : decode prog_20_method_41_code 63 = .ok (.iconst 2, 1) := by decide +kernel
theorem d_MD_field_64 : decode prog_20_method_41_code 64 = .ok (.putfield 101, 3) := by decide +kernel
theorem d_MD_field_67 : decode prog_20_method_41_code 67 = .ok (.aload_n 0, 1) := by decide +kernel
theorem d_MD_field_68 : decode prog_20_method_41_code 68 = .ok (.getfield 101, 3) := by decide +kernel
theorem d_MD_field_71 : decode prog_20_method_41_code 71 = .ok (.ifCond .le 5, 3) := by decide +kernel
theorem d_MD_field_74 : decode prog_20_method_41_code 74 = .ok (.iconst 0, 1) := by decide +kernel
theorem d_MD_field_75 : decode prog_20_method_41_code 75 = .ok (.ireturn, 1) := by decide +kernel
theorem d_MD_field_76 : decode prog_20_method_41_code 76 = .ok (.aload_n 0, 1) := by decide +kernel
theorem d_MD_field_77 : decode prog_20_method_41_code 77 = .ok (.iload_n 1, 1) := by decide +kernel
theorem d_MD_field_78 : decode prog_20_method_41_code 78 = .ok (.iload_n 2, 1) := by decide +kernel
theorem d_MD_field_79 : decode prog_20_method_41_code 79 = .ok (.iload_n 2, 1) := by decide +kernel
theorem d_MD_field_80 : decode prog_20_method_41_code 80 = .ok (.iconst 2, 1) := by decide +kernel
theorem d_MD_field_81 : decode prog_20_method_41_code 81 = .ok (.if_icmp .ne 7, 3) := by decide +kernel
theorem d_MD_field_84 : decode prog_20_method_41_code 84 = .ok (.iconst 0, 1) := by decide +kernel
theorem d_MD_field_85 : decode prog_20_method_41_code 85 = .ok (.goto 4, 3) := by decide +kernel
theorem d_MD_field_88 : decode prog_20_method_41_code 88 = .ok (.iload_n 3, 1) := by decide +kernel
theorem d_MD_field_89 : decode prog_20_method_41_code 89 = .ok (.iload_n 2, 1) := by decide +kernel
theorem d_MD_field_90 : decode prog_20_method_41_code 90 = .ok (.iconst 2, 1) := by decide +kernel
theorem d_MD_field_91 : decode prog_20_method_41_code 91 = .ok (.if_icmp .ne 7, 3) := by decide +kernel
theorem d_MD_field_94 : decode prog_20_method_41_code 94 = .ok (.iconst 0, 1) := by decide +kernel
theorem d_MD_field_95 : decode prog_20_method_41_code 95 = .ok (.goto 5, 3) := by decide +kernel
theorem d_MD_field_98 : decode prog_20_method_41_code 98 = .ok (.iload 4, 2) := by decide +kernel
theorem d_MD_field_100 : decode prog_20_method_41_code 100 = .ok (.invokevirtual 139, 3) := by decide +kernel
theorem d_MD_field_103 : decode prog_20_method_41_code 103 = .ok (.pop, 1) := by decide +kernel
theorem d_MD_field_104 : decode prog_20_method_41_code 104 = .ok (.aload_n 0, 1) := by decide +kernel
theorem d_MD_field_105 : decode prog_20_method_41_code 105 = .ok (.iconst 0, 1) := by decide +kernel
theorem d_MD_field_106 : decode prog_20_method_41_code 106 = .ok (.invokevirtual 244, 3) := by decide +kernel
theorem d_MD_field_109 : decode prog_20_method_41_code 109 = .ok (.aload_n 0, 1) := by decide +kernel
theorem d_MD_field_110 : decode prog_20_method_41_code 110 = .ok (.getfield 13, 3) := by decide +kernel
theorem d_MD_field_113 : decode prog_20_method_41_code 113 = .ok (.iconst 0, 1) := by decide +kernel
theorem d_MD_field_114 : decode prog_20_method_41_code 114 = .ok (.iaload, 1) := by decide +kernel
theorem d_MD_field_115 : decode prog_20_method_41_code 115 = .ok (.ireturn, 1) := by decide +kernel
theorem d_MD_canAdd_0 : decode prog_20_method_42_code 0 = .ok (.iload_n 1, 1) := by decide +kernel
theorem d_MD_canAdd_1 : decode prog_20_method_42_code 1 = .ok (.invokestatic 132, 3) := by decide +kernel
theorem d_MD_canAdd_4 : decode prog_20_method_42_code 4 = .ok (.istore 5, 2) := by decide +kernel
theorem d_MD_canAdd_6 : decode prog_20_method_42_code 6 = .ok (.iload 5, 2) := by decide +kernel
theorem d_MD_canAdd_8 : decode prog_20_method_42_code 8 = .ok (.ifCond .le 50, 3) := by decide +kernel
theorem d_MD_canAdd_11 : decode prog_20_method_42_code 11 = .ok (.aload_n 0, 1) := by decide +kernel
theorem d_MD_canAdd_12 : decode prog_20_method_42_code 12 = .ok (.iload_n 1, 1) := by decide +kernel
theorem d_MD_canAdd_13 : decode prog_20_method_42_code 13 = .ok (.iload 5, 2) := by decide +kernel
theorem d_MD_canAdd_15 : decode prog_20_method_42_code 15 = .ok (.iconst 1, 1) := by decide +kernel
theorem d_MD_canAdd_16 : decode prog_20_method_42_code 16 = .ok (.isub, 1) := by decide +kernel
theorem d_MD_canAdd_17 : decode prog_20_method_42_code 17 = .ok (.invokestatic 104, 3) := by decide +kernel
theorem d_MD_canAdd_20 : decode prog_20_method_42_code 20 = .ok (.invokevirtual 247, 3) := by decide +kernel
theorem d_MD_canAdd_23 : decode prog_20_method_42_code 23 = .ok (.ifCond .eq 35, 3) := by decide +kernel
theorem d_MD_canAdd_26 : decode prog_20_method_42_code 26 = .ok (.aload_n 0, 1) := by decide +kernel
theorem d_MD_canAdd_27 : decode prog_20_method_42_code 27 = .ok (.iload_n 1, 1) := by decide +kernel
theorem d_MD_canAdd_28 : decode prog_20_method_42_code 28 = .ok (.invokevirtual 111, 3) := by decide +kernel
theorem d_MD_canAdd_31 : decode prog_20_method_42_code 31 = .ok (.ifCond .ge 27, 3) := by decide +kernel
theorem d_MD_canAdd_34 : decode prog_20_method_42_code 34 = .ok (.iload_n 2, 1) := by decide +kernel
theorem d_MD_canAdd_35 : decode prog_20_method_42_code 35 = .ok (.ifCond .lt 23, 3) := by decide +kernel
theorem d_MD_canAdd_38 : decode prog_20_method_42_code 38 = .ok (.iload_n 2, 1) := by decide +kernel
theorem d_MD_canAdd_39 : decode prog_20_method_42_code 39 = .ok (.iconst 2, 1) := by decide +kernel
theorem d_MD_canAdd_40 : decode prog_20_method_42_code 40 = .ok (.if_icmp .gt 18, 3) := by decide +kernel
theorem d_MD_canAdd_43 : decode prog_20_method_42_code 43 = .ok (.iload_n 2, 1) := by decide +kernel
theorem d_MD_canAdd_44 : decode prog_20_method_42_code 44 = .ok (.iconst 2, 1) := by decide +kernel
theorem d_MD_canAdd_45 : decode prog_20_method_42_code 45 = .ok (.if_icmp .eq 9, 3) := by decide +kernel
theorem d_MD_canAdd_48 : decode prog_20_method_42_code 48 = .ok (.iload_n 3, 1) := by decide +kernel
theorem d_MD_canAdd_49 : decode prog_20_method_42_code 49 = .ok (.iload 4, 2) := by decide +kernel
theorem d_MD_canAdd_51 : decode prog_20_method_42_code 51 = .ok (.if_icmp .gt 7, 3) := by decide +kernel
theorem d_MD_canAdd_54 : decode prog_20_method_42_code 54 = .ok (.iconst 1, 1) := by decide +kernel
theorem d_MD_canAdd_55 : decode prog_20_method_42_code 55 = .ok (.goto 4, 3) := by decide +kernel
theorem d_MD_canAdd_58 : decode prog_20_method_42_code 58 = .ok (.iconst 0, 1) := by decide +kernel
theorem d_MD_canAdd_59 : decode prog_20_method_42_code 59 = .ok (.ireturn, 1) := by decide +kernel
theorem d_MD_settle_0 : decode prog_20_method_43_code 0 = .ok (.aload_n 0, 1) := by decide +kernel
theorem d_MD_settle_1 : decode prog_20_method_43_code 1 = .ok (.getfield 13, 3) := by decide +kernel
theorem d_MD_settle_4 : decode prog_20_method_43_code 4 = .ok (.iload_n 1, 1) := by decide +kernel
theorem d_MD_settle_5 : decode prog_20_method_43_code 5 = .ok (.aload_n 0, 1) := by decide +kernel
theorem d_MD_settle_6 : decode prog_20_method_43_code 6 = .ok (.getfield 108, 3) := by decide +kernel
theorem d_MD_settle_9 : decode prog_20_method_43_code 9 = .ok (.iastore, 1) := by decide +kernel
theorem d_MD_settle_10 : decode prog_20_method_43_code 10 = .ok (.iconst 0, 1) := by decide +kernel
theorem d_MD_settle_11 : decode prog_20_method_43_code 11 = .ok (.istore_n 2, 1) := by decide +kernel
theorem d_MD_settle_12 : decode prog_20_method_43_code 12 = .ok (.iload_n 2, 1) := by decide +kernel
theorem d_MD_settle_13 : decode prog_20_method_43_code 13 = .ok (.aload_n 0, 1) := by decide +kernel
theorem d_MD_settle_14 : decode prog_20_method_43_code 14 = .ok (.getfield 108, 3) := by decide +kernel
theorem d_MD_settle_17 : decode prog_20_method_43_code 17 = .ok (.if_icmp .ge 124, 3) := by decide +kernel
theorem d_MD_settle_20 : decode prog_20_method_43_code 20 = .ok (.iconst 0, 1) := by decide +kernel
theorem d_MD_settle_21 : decode prog_20_method_43_code 21 = .ok (.istore_n 3, 1) := by decide +kernel
theorem d_MD_settle_22 : decode prog_20_method_43_code 22 = .ok (.iconst 0, 1) := by decide +kernel
theorem d_MD_settle_23 : decode prog_20_method_43_code 23 = .ok (.istore 4, 2) := by decide +kernel
theorem d_MD_settle_25 : decode prog_20_method_43_code 25 = .ok (.iload 4, 2) := by decide +kernel
theorem d_MD_settle_27 : decode prog_20_method_43_code 27 = .ok (.aload_n 0, 1) := by decide +kernel
theorem d_MD_settle_28 : decode prog_20_method_43_code 28 = .ok (.getfield 108, 3) := by decide +kernel
theorem d_MD_settle_31 : decode prog_20_method_43_code 31 = .ok (.if_icmp .ge 36, 3) := by decide +kernel
theorem d_MD_settle_34 : decode prog_20_method_43_code 34 = .ok (.aload_n 0, 1) := by decide +kernel
theorem d_MD_settle_35 : decode prog_20_method_43_code 35 = .ok (.getfield 53, 3) := by decide +kernel
theorem d_MD_settle_38 : decode prog_20_method_43_code 38 = .ok (.iload 4, 2) := by decide +kernel
theorem d_MD_settle_40 : decode prog_20_method_43_code 40 = .ok (.iaload, 1) := by decide +kernel
theorem d_MD_settle_41 : decode prog_20_method_43_code 41 = .ok (.aload_n 0, 1) := by decide +kernel
theorem d_MD_settle_42 : decode prog_20_method_43_code 42 = .ok (.getfield 53, 3) := by decide +kernel
theorem d_MD_settle_45 : decode prog_20_method_43_code 45 = .ok (.iload_n 2, 1) := by decide +kernel
theorem d_MD_settle_46 : decode prog_20_method_43_code 46 = .ok (.iaload, 1) := by decide +kernel
theorem d_MD_settle_47 : decode prog_20_method_43_code 47 = .ok (.invokestatic 250, 3) := by decide +kernel
theorem d_MD_settle_50 : decode prog_20_method_43_code 50 = .ok (.ifCond .eq 9, 3) := by decide +kernel
theorem d_MD_settle_53 : decode prog_20_method_43_code 53 = .ok (.iload_n 3, 1) := by decide +kernel
theorem d_MD_settle_54 : decode prog_20_method_43_code 54 = .ok (.iconst 1, 1) := by decide +kernel
theorem d_MD_settle_55 : decode prog_20_method_43_code 55 = .ok (.iadd, 1) := by decide +kernel
theorem d_MD_settle_56 : decode prog_20_method_43_code 56 = .ok (.goto 4, 3) := by decide +kernel
theorem d_MD_settle_59 : decode prog_20_method_43_code 59 = .ok (.iload_n 3, 1) := by decide +kernel
theorem d_MD_settle_60 : decode prog_20_method_43_code 60 = .ok (.istore_n 3, 1) := by decide +kernel
theorem d_MD_settle_61 : decode prog_20_method_43_code 61 = .ok (.iinc 4 1, 3) := by decide +kernel
theorem d_MD_settle_64 : decode prog_20_method_43_code 64 = .ok (.goto (-39), 3) := by decide +kernel
theorem d_MD_settle_67 : decode prog_20_method_43_code 67 = .ok (.aload_n 0, 1) := by decide +kernel
theorem d_MD_settle_68 : decode prog_20_method_43_code 68 = .ok (.getfield 17, 3) := by decide +kernel
theorem d_MD_settle_71 : decode prog_20_method_43_code 71 = .ok (.bipush 24, 2) := by decide +kernel
theorem d_MD_settle_73 : decode prog_20_method_43_code 73 = .ok (.iload_n 1, 1) := by decide +kernel
theorem d_MD_settle_74 : decode prog_20_method_43_code 74 = .ok (.imul, 1) := by decide +kernel
theorem d_MD_settle_75 : decode prog_20_method_43_code 75 = .ok (.iload_n 3, 1) := by decide +kernel
theorem d_MD_settle_76 : decode prog_20_method_43_code 76 = .ok (.iadd, 1) := by decide +kernel
theorem d_MD_settle_77 : decode prog_20_method_43_code 77 = .ok (.aload_n 0, 1) := by decide +kernel
theorem d_MD_settle_78 : decode prog_20_method_43_code 78 = .ok (.getfield 53, 3) := by decide +kernel
theorem d_MD_settle_81 : decode prog_20_method_43_code 81 = .ok (.iload_n 2, 1) := by decide +kernel
theorem d_MD_settle_82 : decode prog_20_method_43_code 82 = .ok (.iaload, 1) := by decide +kernel
theorem d_MD_settle_83 : decode prog_20_method_43_code 83 = .ok (.iastore, 1) := by decide +kernel
theorem d_MD_settle_84 : decode prog_20_method_43_code 84 = .ok (.aload_n 0, 1) := by decide +kernel
theorem d_MD_settle_85 : decode prog_20_method_43_code 85 = .ok (.getfield 20, 3) := by decide +kernel
theorem d_MD_settle_88 : decode prog_20_method_43_code 88 = .ok (.bipush 24, 2) := by decide +kernel
theorem d_MD_settle_90 : decode prog_20_method_43_code 90 = .ok (.iload_n 1, 1) := by decide +kernel
theorem d_MD_settle_91 : decode prog_20_method_43_code 91 = .ok (.imul, 1) := by decide +kernel
theorem d_MD_settle_92 : decode prog_20_method_43_code 92 = .ok (.iload_n 3, 1) := by decide +kernel
theorem d_MD_settle_93 : decode prog_20_method_43_code 93 = .ok (.iadd, 1) := by decide +kernel
theorem d_MD_settle_94 : decode prog_20_method_43_code 94 = .ok (.aload_n 0, 1) := by decide +kernel
theorem d_MD_settle_95 : decode prog_20_method_43_code 95 = .ok (.getfield 56, 3) := by decide +kernel
theorem d_MD_settle_98 : decode prog_20_method_43_code 98 = .ok (.iload_n 2, 1) := by decide +kernel
theorem d_MD_settle_99 : decode prog_20_method_43_code 99 = .ok (.iaload, 1) := by decide +kernel
theorem d_MD_settle_100 : decode prog_20_method_43_code 100 = .ok (.iastore, 1) := by decide +kernel
theorem d_MD_settle_101 : decode prog_20_method_43_code 101 = .ok (.aload_n 0, 1) := by decide +kernel
theorem d_MD_settle_102 : decode prog_20_method_43_code 102 = .ok (.getfield 23, 3) := by decide +kernel
theorem d_MD_settle_105 : decode prog_20_method_43_code 105 = .ok (.bipush 24, 2) := by decide +kernel
theorem d_MD_settle_107 : decode prog_20_method_43_code 107 = .ok (.iload_n 1, 1) := by decide +kernel
theorem d_MD_settle_108 : decode prog_20_method_43_code 108 = .ok (.imul, 1) := by decide +kernel
theorem d_MD_settle_109 : decode prog_20_method_43_code 109 = .ok (.iload_n 3, 1) := by decide +kernel
theorem d_MD_settle_110 : decode prog_20_method_43_code 110 = .ok (.iadd, 1) := by decide +kernel
theorem d_MD_settle_111 : decode prog_20_method_43_code 111 = .ok (.aload_n 0, 1) := by decide +kernel
theorem d_MD_settle_112 : decode prog_20_method_43_code 112 = .ok (.getfield 59, 3) := by decide +kernel
theorem d_MD_settle_115 : decode prog_20_method_43_code 115 = .ok (.iload_n 2, 1) := by decide +kernel
theorem d_MD_settle_116 : decode prog_20_method_43_code 116 = .ok (.iaload, 1) := by decide +kernel
theorem d_MD_settle_117 : decode prog_20_method_43_code 117 = .ok (.iastore, 1) := by decide +kernel
theorem d_MD_settle_118 : decode prog_20_method_43_code 118 = .ok (.aload_n 0, 1) := by decide +kernel
theorem d_MD_settle_119 : decode prog_20_method_43_code 119 = .ok (.getfield 26, 3) := by decide +kernel
theorem d_MD_settle_122 : decode prog_20_method_43_code 122 = .ok (.bipush 24, 2) := by decide +kernel
theorem d_MD_settle_124 : decode prog_20_method_43_code 124 = .ok (.iload_n 1, 1) := by decide +kernel
theorem d_MD_settle_125 : decode prog_20_method_43_code 125 = .ok (.imul, 1) := by decide +kernel
theorem d_MD_settle_126 : decode prog_20_method_43_code 126 = .ok (.iload_n 3, 1) := by decide +kernel
theorem d_MD_settle_127 : decode prog_20_method_43_code 127 = .ok (.iadd, 1) := by decide +kernel
theorem d_MD_settle_128 : decode prog_20_method_43_code 128 = .ok (.aload_n 0, 1) := by decide +kernel
theorem d_MD_settle_129 : decode prog_20_method_43_code 129 = .ok (.getfield 62, 3) := by decide +kernel
theorem d_MD_settle_132 : decode prog_20_method_43_code 132 = .ok (.iload_n 2, 1) := by decide +kernel
theorem d_MD_settle_133 : decode prog_20_method_43_code 133 = .ok (.iaload, 1) := by decide +kernel
theorem d_MD_settle_134 : decode prog_20_method_43_code 134 = .ok (.iastore, 1) := by decide +kernel
theorem d_MD_settle_135 : decode prog_20_method_43_code 135 = .ok (.iinc 2 1, 3) := by decide +kernel
theorem d_MD_settle_138 : decode prog_20_method_43_code 138 = .ok (.goto (-126), 3) := by decide +kernel
theorem d_MD_settle_141 : decode prog_20_method_43_code 141 = .ok (.return_, 1) := by decide +kernel
theorem d_MD_isVersion_0 : decode prog_20_method_44_code 0 = .ok (.iload_n 1, 1) := by decide +kernel
theorem d_MD_isVersion_1 : decode prog_20_method_44_code 1 = .ok (.ifCond .lt 15, 3) := by decide +kernel
theorem d_MD_isVersion_4 : decode prog_20_method_44_code 4 = .ok (.iload_n 1, 1) := by decide +kernel
theorem d_MD_isVersion_5 : decode prog_20_method_44_code 5 = .ok (.aload_n 0, 1) := by decide +kernel
theorem d_MD_isVersion_6 : decode prog_20_method_44_code 6 = .ok (.getfield 7, 3) := by decide +kernel
theorem d_MD_isVersion_9 : decode prog_20_method_44_code 9 = .ok (.if_icmp .ge 7, 3) := by decide +kernel
theorem d_MD_isVersion_12 : decode prog_20_method_44_code 12 = .ok (.iconst 1, 1) := by decide +kernel
theorem d_MD_isVersion_13 : decode prog_20_method_44_code 13 = .ok (.goto 4, 3) := by decide +kernel
theorem d_MD_isVersion_16 : decode prog_20_method_44_code 16 = .ok (.iconst 0, 1) := by decide +kernel
theorem d_MD_isVersion_17 : decode prog_20_method_44_code 17 = .ok (.ireturn, 1) := by decide +kernel
theorem d_MD_begin_0 : decode prog_20_method_45_code 0 = .ok (.aload_n 0, 1) := by decide +kernel
theorem d_MD_begin_1 : decode prog_20_method_45_code 1 = .ok (.aload_n 0, 1) := by decide +kernel
theorem d_MD_begin_2 : decode prog_20_method_45_code 2 = .ok (.iload_n 1, 1) := by decide +kernel
theorem d_MD_begin_3 : decode prog_20_method_45_code 3 = .ok (.invokevirtual 254, 3) := by decide +kernel
theorem d_MD_begin_6 : decode prog_20_method_45_code 6 = .ok (.ifCond .ne 7, 3) := by decide +kernel
theorem d_MD_begin_9 : decode prog_20_method_45_code 9 = .ok (.iconst 1, 1) := by decide +kernel
theorem d_MD_begin_10 : decode prog_20_method_45_code 10 = .ok (.goto 15, 3) := by decide +kernel
theorem d_MD_begin_13 : decode prog_20_method_45_code 13 = .ok (.aload_n 0, 1) := by decide +kernel
theorem d_MD_begin_14 : decode prog_20_method_45_code 14 = .ok (.getfield 257, 3) := by decide +kernel
theorem d_MD_begin_17 : decode prog_20_method_45_code 17 = .ok (.ifCond .eq 7, 3) := by decide +kernel
theorem d_MD_begin_20 : decode prog_20_method_45_code 20 = .ok (.iconst 2, 1) := by decide +kernel
theorem d_MD_begin_21 : decode prog_20_method_45_code 21 = .ok (.goto 4, 3) := by decide +kernel
theorem d_MD_begin_24 : decode prog_20_method_45_code 24 = .ok (.iconst 0, 1) := by decide +kernel
theorem d_MD_begin_25 : decode prog_20_method_45_code 25 = .ok (.putfield 101, 3) := by decide +kernel
theorem d_MD_begin_28 : decode prog_20_method_45_code 28 = .ok (.aload_n 0, 1) := by decide +kernel
theorem d_MD_begin_29 : decode prog_20_method_45_code 29 = .ok (.getfield 101, 3) := by decide +kernel
theorem d_MD_begin_32 : decode prog_20_method_45_code 32 = .ok (.ifCond .le 4, 3) := by decide +kernel
theorem d_MD_begin_35 : decode prog_20_method_45_code 35 = .ok (.return_, 1) := by decide +kernel
theorem d_MD_begin_36 : decode prog_20_method_45_code 36 = .ok (.aload_n 0, 1) := by decide +kernel
theorem d_MD_begin_37 : decode prog_20_method_45_code 37 = .ok (.iconst 1, 1) := by decide +kernel
theorem d_MD_begin_38 : decode prog_20_method_45_code 38 = .ok (.putfield 257, 3) := by decide +kernel
theorem d_MD_begin_41 : decode prog_20_method_45_code 41 = .ok (.aload_n 0, 1) := by decide +kernel
theorem d_MD_begin_42 : decode prog_20_method_45_code 42 = .ok (.iconst 1, 1) := by decide +kernel
theorem d_MD_begin_43 : decode prog_20_method_45_code 43 = .ok (.putfield 234, 3) := by decide +kernel
theorem d_MD_begin_46 : decode prog_20_method_45_code 46 = .ok (.aload_n 0, 1) := by decide +kernel
theorem d_MD_begin_47 : decode prog_20_method_45_code 47 = .ok (.getfield 29, 3) := by decide +kernel
theorem d_MD_begin_50 : decode prog_20_method_45_code 50 = .ok (.aload_n 0, 1) := by decide +kernel
theorem d_MD_begin_51 : decode prog_20_method_45_code 51 = .ok (.getfield 260, 3) := by decide +kernel
theorem d_MD_begin_54 : decode prog_20_method_45_code 54 = .ok (.iload_n 1, 1) := by decide +kernel
theorem d_MD_begin_55 : decode prog_20_method_45_code 55 = .ok (.iastore, 1) := by decide +kernel
theorem d_MD_begin_56 : decode prog_20_method_45_code 56 = .ok (.aload_n 0, 1) := by decide +kernel
theorem d_MD_begin_57 : decode prog_20_method_45_code 57 = .ok (.getfield 35, 3) := by decide +kernel
theorem d_MD_begin_60 : decode prog_20_method_45_code 60 = .ok (.aload_n 0, 1) := by decide +kernel
theorem d_MD_begin_61 : decode prog_20_method_45_code 61 = .ok (.getfield 260, 3) := by decide +kernel
theorem d_MD_begin_64 : decode prog_20_method_45_code 64 = .ok (.iconst 0, 1) := by decide +kernel
theorem d_MD_begin_65 : decode prog_20_method_45_code 65 = .ok (.iastore, 1) := by decide +kernel
theorem d_MD_begin_66 : decode prog_20_method_45_code 66 = .ok (.return_, 1) := by decide +kernel
theorem d_MD_takeUnderWay_0 : decode prog_20_method_46_code 0 = .ok (.aload_n 0, 1) := by decide +kernel
theorem d_MD_takeUnderWay_1 : decode prog_20_method_46_code 1 = .ok (.iconst 0, 1) := by decide +kernel
theorem d_MD_takeUnderWay_2 : decode prog_20_method_46_code 2 = .ok (.putfield 118, 3) := by decide +kernel
theorem d_MD_takeUnderWay_5 : decode prog_20_method_46_code 5 = .ok (.aload_n 0, 1) := by decide +kernel
theorem d_MD_takeUnderWay_6 : decode prog_20_method_46_code 6 = .ok (.aload_n 0, 1) := by decide +kernel
theorem d_MD_takeUnderWay_7 : decode prog_20_method_46_code 7 = .ok (.getfield 29, 3) := by decide +kernel
theorem d_MD_takeUnderWay_10 : decode prog_20_method_46_code 10 = .ok (.aload_n 0, 1) := by decide +kernel
theorem d_MD_takeUnderWay_11 : decode prog_20_method_46_code 11 = .ok (.getfield 260, 3) := by decide +kernel
theorem d_MD_takeUnderWay_14 : decode prog_20_method_46_code 14 = .ok (.iaload, 1) := by decide +kernel
theorem d_MD_takeUnderWay_15 : decode prog_20_method_46_code 15 = .ok (.invokevirtual 237, 3) := by decide +kernel
theorem d_MD_takeUnderWay_18 : decode prog_20_method_46_code 18 = .ok (.iconst 0, 1) := by decide +kernel
theorem d_MD_takeUnderWay_19 : decode prog_20_method_46_code 19 = .ok (.istore_n 1, 1) := by decide +kernel
theorem d_MD_takeUnderWay_20 : decode prog_20_method_46_code 20 = .ok (.iload_n 1, 1) := by decide +kernel
theorem d_MD_takeUnderWay_21 : decode prog_20_method_46_code 21 = .ok (.aload_n 0, 1) := by decide +kernel
theorem d_MD_takeUnderWay_22 : decode prog_20_method_46_code 22 = .ok (.getfield 35, 3) := by decide +kernel
theorem d_MD_takeUnderWay_25 : decode prog_20_method_46_code 25 = .ok (.aload_n 0, 1) := by decide +kernel
theorem d_MD_takeUnderWay_26 : decode prog_20_method_46_code 26 = .ok (.getfield 260, 3) := by decide +kernel
theorem d_MD_takeUnderWay_29 : decode prog_20_method_46_code 29 = .ok (.iaload, 1) := by decide +kernel
theorem d_MD_takeUnderWay_30 : decode prog_20_method_46_code 30 = .ok (.if_icmp .ge 18, 3) := by decide +kernel
theorem d_MD_takeUnderWay_33 : decode prog_20_method_46_code 33 = .ok (.aload_n 0, 1) := by decide +kernel
theorem d_MD_takeUnderWay_34 : decode prog_20_method_46_code 34 = .ok (.aload_n 0, 1) := by decide +kernel
theorem d_MD_takeUnderWay_35 : decode prog_20_method_46_code 35 = .ok (.getfield 260, 3) := by decide +kernel
theorem d_MD_takeUnderWay_38 : decode prog_20_method_46_code 38 = .ok (.iload_n 1, 1) := by decide +kernel
theorem d_MD_takeUnderWay_39 : decode prog_20_method_46_code 39 = .ok (.invokevirtual 263, 3) := by decide +kernel
theorem d_MD_takeUnderWay_42 : decode prog_20_method_46_code 42 = .ok (.iinc 1 1, 3) := by decide +kernel
theorem d_MD_takeUnderWay_45 : decode prog_20_method_46_code 45 = .ok (.goto (-25), 3) := by decide +kernel
theorem d_MD_takeUnderWay_48 : decode prog_20_method_46_code 48 = .ok (.return_, 1) := by decide +kernel
theorem d_MD_canDo_0 : decode prog_20_method_47_code 0 = .ok (.iload_n 1, 1) := by decide +kernel
theorem d_MD_canDo_1 : decode prog_20_method_47_code 1 = .ok (.iconst 1, 1) := by decide +kernel
theorem d_MD_canDo_2 : decode prog_20_method_47_code 2 = .ok (.if_icmp .ne 31, 3) := by decide +kernel
theorem d_MD_canDo_5 : decode prog_20_method_47_code 5 = .ok (.aload_n 0, 1) := by decide +kernel
theorem d_MD_canDo_6 : decode prog_20_method_47_code 6 = .ok (.iload_n 2, 1) := by decide +kernel
theorem d_MD_canDo_7 : decode prog_20_method_47_code 7 = .ok (.iload_n 3, 1) := by decide +kernel
theorem d_MD_canDo_8 : decode prog_20_method_47_code 8 = .ok (.iload 4, 2) := by decide +kernel
theorem d_MD_canDo_10 : decode prog_20_method_47_code 10 = .ok (.iload 5, 2) := by decide +kernel
theorem d_MD_canDo_12 : decode prog_20_method_47_code 12 = .ok (.invokevirtual 240, 3) := by decide +kernel
theorem d_MD_canDo_15 : decode prog_20_method_47_code 15 = .ok (.ifCond .eq 16, 3) := by decide +kernel
theorem d_MD_canDo_18 : decode prog_20_method_47_code 18 = .ok (.aload_n 0, 1) := by decide +kernel
theorem d_MD_canDo_19 : decode prog_20_method_47_code 19 = .ok (.getfield 108, 3) := by decide +kernel
theorem d_MD_canDo_22 : decode prog_20_method_47_code 22 = .ok (.bipush 24, 2) := by decide +kernel
theorem d_MD_canDo_24 : decode prog_20_method_47_code 24 = .ok (.if_icmp .ge 7, 3) := by decide +kernel
theorem d_MD_canDo_27 : decode prog_20_method_47_code 27 = .ok (.iconst 1, 1) := by decide +kernel
theorem d_MD_canDo_28 : decode prog_20_method_47_code 28 = .ok (.goto 4, 3) := by decide +kernel
theorem d_MD_canDo_31 : decode prog_20_method_47_code 31 = .ok (.iconst 0, 1) := by decide +kernel
theorem d_MD_canDo_32 : decode prog_20_method_47_code 32 = .ok (.ireturn, 1) := by decide +kernel
theorem d_MD_canDo_33 : decode prog_20_method_47_code 33 = .ok (.iload_n 2, 1) := by decide +kernel
theorem d_MD_canDo_34 : decode prog_20_method_47_code 34 = .ok (.invokestatic 132, 3) := by decide +kernel
theorem d_MD_canDo_37 : decode prog_20_method_47_code 37 = .ok (.istore 6, 2) := by decide +kernel
theorem d_MD_canDo_39 : decode prog_20_method_47_code 39 = .ok (.iload 6, 2) := by decide +kernel
theorem d_MD_canDo_41 : decode prog_20_method_47_code 41 = .ok (.ifCond .le 11, 3) := by decide +kernel
theorem d_MD_canDo_44 : decode prog_20_method_47_code 44 = .ok (.aload_n 0, 1) := by decide +kernel
theorem d_MD_canDo_45 : decode prog_20_method_47_code 45 = .ok (.iload_n 2, 1) := by decide +kernel
theorem d_MD_canDo_46 : decode prog_20_method_47_code 46 = .ok (.invokevirtual 111, 3) := by decide +kernel
theorem d_MD_canDo_49 : decode prog_20_method_47_code 49 = .ok (.goto 4, 3) := by decide +kernel
theorem d_MD_canDo_52 : decode prog_20_method_47_code 52 = .ok (.iconst (-1), 1) := by decide +kernel
theorem d_MD_canDo_53 : decode prog_20_method_47_code 53 = .ok (.istore 7, 2) := by decide +kernel
theorem d_MD_canDo_55 : decode prog_20_method_47_code 55 = .ok (.iload 7, 2) := by decide +kernel
theorem d_MD_canDo_57 : decode prog_20_method_47_code 57 = .ok (.ifCond .ge 5, 3) := by decide +kernel
theorem d_MD_canDo_60 : decode prog_20_method_47_code 60 = .ok (.iconst 0, 1) := by decide +kernel
theorem d_MD_canDo_61 : decode prog_20_method_47_code 61 = .ok (.ireturn, 1) := by decide +kernel
theorem d_MD_canDo_62 : decode prog_20_method_47_code 62 = .ok (.iload_n 3, 1) := by decide +kernel
theorem d_MD_canDo_63 : decode prog_20_method_47_code 63 = .ok (.ifCond .lt 13, 3) := by decide +kernel
theorem d_MD_canDo_66 : decode prog_20_method_47_code 66 = .ok (.iload_n 3, 1) := by decide +kernel
theorem d_MD_canDo_67 : decode prog_20_method_47_code 67 = .ok (.bipush 99, 2) := by decide +kernel
theorem d_MD_canDo_69 : decode prog_20_method_47_code 69 = .ok (.if_icmp .gt 7, 3) := by decide +kernel
theorem d_MD_canDo_72 : decode prog_20_method_47_code 72 = .ok (.iconst 1, 1) := by decide +kernel
theorem d_MD_canDo_73 : decode prog_20_method_47_code 73 = .ok (.goto 4, 3) := by decide +kernel
theorem d_MD_canDo_76 : decode prog_20_method_47_code 76 = .ok (.iconst 0, 1) := by decide +kernel
theorem d_MD_canDo_77 : decode prog_20_method_47_code 77 = .ok (.istore 8, 2) := by decide +kernel
theorem d_MD_canDo_79 : decode prog_20_method_47_code 79 = .ok (.iconst 0, 1) := by decide +kernel
theorem d_MD_canDo_80 : decode prog_20_method_47_code 80 = .ok (.istore 9, 2) := by decide +kernel
theorem d_MD_canDo_82 : decode prog_20_method_47_code 82 = .ok (.iconst 0, 1) := by decide +kernel
theorem d_MD_canDo_83 : decode prog_20_method_47_code 83 = .ok (.istore 10, 2) := by decide +kernel
theorem d_MD_canDo_85 : decode prog_20_method_47_code 85 = .ok (.iload 10, 2) := by decide +kernel
theorem d_MD_canDo_87 : decode prog_20_method_47_code 87 = .ok (.aload_n 0, 1) := by decide +kernel
theorem d_MD_canDo_88 : decode prog_20_method_47_code 88 = .ok (.getfield 108, 3) := by decide +kernel
theorem d_MD_canDo_91 : decode prog_20_method_47_code 91 = .ok (.if_icmp .ge 44, 3) := by decide +kernel
theorem d_MD_canDo_94 : decode prog_20_method_47_code 94 = .ok (.iload 9, 2) := by decide +kernel
theorem d_MD_canDo_96 : decode prog_20_method_47_code 96 = .ok (.ifCond .ne 26, 3) := by decide +kernel
theorem d_MD_canDo_99 : decode prog_20_method_47_code 99 = .ok (.iload 10, 2) := by decide +kernel
theorem d_MD_canDo_101 : decode prog_20_method_47_code 101 = .ok (.iload 7, 2) := by decide +kernel
theorem d_MD_canDo_103 : decode prog_20_method_47_code 103 = .ok (.if_icmp .eq 23, 3) := by decide +kernel
theorem d_MD_canDo_106 : decode prog_20_method_47_code 106 = .ok (.aload_n 0, 1) := by decide +kernel
theorem d_MD_canDo_107 : decode prog_20_method_47_code 107 = .ok (.getfield 53, 3) := by decide +kernel
theorem d_MD_canDo_110 : decode prog_20_method_47_code 110 = .ok (.iload 10, 2) := by decide +kernel
theorem d_MD_canDo_112 : decode prog_20_method_47_code 112 = .ok (.iaload, 1) := by decide +kernel
theorem d_MD_canDo_113 : decode prog_20_method_47_code 113 = .ok (.iload_n 2, 1) := by decide +kernel
theorem d_MD_canDo_114 : decode prog_20_method_47_code 114 = .ok (.iload 6, 2) := by decide +kernel
theorem d_MD_canDo_116 : decode prog_20_method_47_code 116 = .ok (.invokestatic 135, 3) := by decide +kernel
theorem d_MD_canDo_119 : decode prog_20_method_47_code 119 = .ok (.ifCond .eq 7, 3) := by decide +kernel
theorem d_MD_canDo_122 : decode prog_20_method_47_code 122 = .ok (.iconst 1, 1) := by decide +kernel
theorem d_MD_canDo_123 : decode prog_20_method_47_code 123 = .ok (.goto 4, 3) := by decide +kernel
theorem d_MD_canDo_126 : decode prog_20_method_47_code 126 = .ok (.iconst 0, 1) := by decide +kernel
theorem d_MD_canDo_127 : decode prog_20_method_47_code 127 = .ok (.istore 9, 2) := by decide +kernel
theorem d_MD_canDo_129 : decode prog_20_method_47_code 129 = .ok (.iinc 10 1, 3) := by decide +kernel
theorem d_MD_canDo_132 : decode prog_20_method_47_code 132 = .ok (.goto (-47), 3) := by decide +kernel
theorem d_MD_canDo_135 : decode prog_20_method_47_code 135 = .ok (.iload_n 1, 1) := by decide +kernel
theorem d_MD_canDo_136 : decode prog_20_method_47_code 136 = .ok (.tableswitch 365 0 8 #[52, 365, 77, 88, 104, 130, 192, 280, 348], 52) := by decide +kernel
theorem d_MD_canDo_188 : decode prog_20_method_47_code 188 = .ok (.iload 8, 2) := by decide +kernel
theorem d_MD_canDo_190 : decode prog_20_method_47_code 190 = .ok (.ifCond .eq 21, 3) := by decide +kernel
theorem d_MD_canDo_193 : decode prog_20_method_47_code 193 = .ok (.aload_n 0, 1) := by decide +kernel
theorem d_MD_canDo_194 : decode prog_20_method_47_code 194 = .ok (.aload_n 0, 1) := by decide +kernel
theorem d_MD_canDo_195 : decode prog_20_method_47_code 195 = .ok (.iload_n 1, 1) := by decide +kernel
theorem d_MD_canDo_196 : decode prog_20_method_47_code 196 = .ok (.iload_n 2, 1) := by decide +kernel
theorem d_MD_canDo_197 : decode prog_20_method_47_code 197 = .ok (.iload_n 3, 1) := by decide +kernel
theorem d_MD_canDo_198 : decode prog_20_method_47_code 198 = .ok (.invokevirtual 160, 3) := by decide +kernel
theorem d_MD_canDo_201 : decode prog_20_method_47_code 201 = .ok (.invokevirtual 111, 3) := by decide +kernel
theorem d_MD_canDo_204 : decode prog_20_method_47_code 204 = .ok (.ifCond .ge 7, 3) := by decide +kernel
theorem d_MD_canDo_207 : decode prog_20_method_47_code 207 = .ok (.iconst 1, 1) := by decide +kernel
theorem d_MD_canDo_208 : decode prog_20_method_47_code 208 = .ok (.goto 4, 3) := by decide +kernel
theorem d_MD_canDo_211 : decode prog_20_method_47_code 211 = .ok (.iconst 0, 1) := by decide +kernel
theorem d_MD_canDo_212 : decode prog_20_method_47_code 212 = .ok (.ireturn, 1) := by decide +kernel
theorem d_MD_canDo_213 : decode prog_20_method_47_code 213 = .ok (.iload 9, 2) := by decide +kernel
theorem d_MD_canDo_215 : decode prog_20_method_47_code 215 = .ok (.ifCond .ne 7, 3) := by decide +kernel
theorem d_MD_canDo_218 : decode prog_20_method_47_code 218 = .ok (.iconst 1, 1) := by decide +kernel
theorem d_MD_canDo_219 : decode prog_20_method_47_code 219 = .ok (.goto 4, 3) := by decide +kernel
theorem d_MD_canDo_222 : decode prog_20_method_47_code 222 = .ok (.iconst 0, 1) := by decide +kernel
theorem d_MD_canDo_223 : decode prog_20_method_47_code 223 = .ok (.ireturn, 1) := by decide +kernel
theorem d_MD_canDo_224 : decode prog_20_method_47_code 224 = .ok (.aload_n 0, 1) := by decide +kernel
theorem d_MD_canDo_225 : decode prog_20_method_47_code 225 = .ok (.getfield 56, 3) := by decide +kernel
theorem d_MD_canDo_228 : decode prog_20_method_47_code 228 = .ok (.iload 7, 2) := by decide +kernel
theorem d_MD_canDo_230 : decode prog_20_method_47_code 230 = .ok (.iaload, 1) := by decide +kernel
theorem d_MD_canDo_231 : decode prog_20_method_47_code 231 = .ok (.ifCond .ne 7, 3) := by decide +kernel
theorem d_MD_canDo_234 : decode prog_20_method_47_code 234 = .ok (.iconst 1, 1) := by decide +kernel
theorem d_MD_canDo_235 : decode prog_20_method_47_code 235 = .ok (.goto 4, 3) := by decide +kernel
theorem d_MD_canDo_238 : decode prog_20_method_47_code 238 = .ok (.iconst 0, 1) := by decide +kernel
theorem d_MD_canDo_239 : decode prog_20_method_47_code 239 = .ok (.ireturn, 1) := by decide +kernel
theorem d_MD_canDo_240 : decode prog_20_method_47_code 240 = .ok (.iload 6, 2) := by decide +kernel
theorem d_MD_canDo_242 : decode prog_20_method_47_code 242 = .ok (.iconst 1, 1) := by decide +kernel
theorem d_MD_canDo_243 : decode prog_20_method_47_code 243 = .ok (.if_icmp .le 21, 3) := by decide +kernel
theorem d_MD_canDo_246 : decode prog_20_method_47_code 246 = .ok (.aload_n 0, 1) := by decide +kernel
theorem d_MD_canDo_247 : decode prog_20_method_47_code 247 = .ok (.aload_n 0, 1) := by decide +kernel
theorem d_MD_canDo_248 : decode prog_20_method_47_code 248 = .ok (.iload_n 1, 1) := by decide +kernel
theorem d_MD_canDo_249 : decode prog_20_method_47_code 249 = .ok (.iload_n 2, 1) := by decide +kernel
theorem d_MD_canDo_250 : decode prog_20_method_47_code 250 = .ok (.iload_n 3, 1) := by decide +kernel
theorem d_MD_canDo_251 : decode prog_20_method_47_code 251 = .ok (.invokevirtual 160, 3) := by decide +kernel
theorem d_MD_canDo_254 : decode prog_20_method_47_code 254 = .ok (.invokevirtual 111, 3) := by decide +kernel
theorem d_MD_canDo_257 : decode prog_20_method_47_code 257 = .ok (.ifCond .ge 7, 3) := by decide +kernel
theorem d_MD_canDo_260 : decode prog_20_method_47_code 260 = .ok (.iconst 1, 1) := by decide +kernel
theorem d_MD_canDo_261 : decode prog_20_method_47_code 261 = .ok (.goto 4, 3) := by decide +kernel
theorem d_MD_canDo_264 : decode prog_20_method_47_code 264 = .ok (.iconst 0, 1) := by decide +kernel
theorem d_MD_canDo_265 : decode prog_20_method_47_code 265 = .ok (.ireturn, 1) := by decide +kernel
theorem d_MD_canDo_266 : decode prog_20_method_47_code 266 = .ok (.aload_n 0, 1) := by decide +kernel
theorem d_MD_canDo_267 : decode prog_20_method_47_code 267 = .ok (.getfield 56, 3) := by decide +kernel
theorem d_MD_canDo_270 : decode prog_20_method_47_code 270 = .ok (.iload 7, 2) := by decide +kernel
theorem d_MD_canDo_272 : decode prog_20_method_47_code 272 = .ok (.iaload, 1) := by decide +kernel
theorem d_MD_canDo_273 : decode prog_20_method_47_code 273 = .ok (.ifCond .ne 53, 3) := by decide +kernel
theorem d_MD_canDo_276 : decode prog_20_method_47_code 276 = .ok (.iload_n 3, 1) := by decide +kernel
theorem d_MD_canDo_277 : decode prog_20_method_47_code 277 = .ok (.iconst 2, 1) := by decide +kernel
theorem d_MD_canDo_278 : decode prog_20_method_47_code 278 = .ok (.if_icmp .lt 48, 3) := by decide +kernel
theorem d_MD_canDo_281 : decode prog_20_method_47_code 281 = .ok (.iload_n 3, 1) := by decide +kernel
theorem d_MD_canDo_282 : decode prog_20_method_47_code 282 = .ok (.sipush 1000, 3) := by decide +kernel
theorem d_MD_canDo_285 : decode prog_20_method_47_code 285 = .ok (.if_icmp .gt 41, 3) := by decide +kernel
theorem d_MD_canDo_288 : decode prog_20_method_47_code 288 = .ok (.iload 4, 2) := by decide +kernel
theorem d_MD_canDo_290 : decode prog_20_method_47_code 290 = .ok (.ifCond .lt 36, 3) := by decide +kernel
theorem d_MD_canDo_293 : decode prog_20_method_47_code 293 = .ok (.iload 4, 2) := by decide +kernel
theorem d_MD_canDo_295 : decode prog_20_method_47_code 295 = .ok (.bipush 99, 2) := by decide +kernel
theorem d_MD_canDo_297 : decode prog_20_method_47_code 297 = .ok (.if_icmp .gt 29, 3) := by decide +kernel
theorem d_MD_canDo_300 : decode prog_20_method_47_code 300 = .ok (.aload_n 0, 1) := by decide +kernel
theorem d_MD_canDo_301 : decode prog_20_method_47_code 301 = .ok (.iload_n 2, 1) := by decide +kernel
theorem d_MD_canDo_302 : decode prog_20_method_47_code 302 = .ok (.iload 4, 2) := by decide +kernel
theorem d_MD_canDo_304 : decode prog_20_method_47_code 304 = .ok (.invokestatic 194, 3) := by decide +kernel
theorem d_MD_canDo_307 : decode prog_20_method_47_code 307 = .ok (.invokevirtual 111, 3) := by decide +kernel
theorem d_MD_canDo_310 : decode prog_20_method_47_code 310 = .ok (.ifCond .ge 16, 3) := by decide +kernel
theorem d_MD_canDo_313 : decode prog_20_method_47_code 313 = .ok (.aload_n 0, 1) := by decide +kernel
theorem d_MD_canDo_314 : decode prog_20_method_47_code 314 = .ok (.getfield 108, 3) := by decide +kernel
theorem d_MD_canDo_317 : decode prog_20_method_47_code 317 = .ok (.bipush 24, 2) := by decide +kernel
theorem d_MD_canDo_319 : decode prog_20_method_47_code 319 = .ok (.if_icmp .ge 7, 3) := by decide +kernel
theorem d_MD_canDo_322 : decode prog_20_method_47_code 322 = .ok (.iconst 1, 1) := by decide +kernel
theorem d_MD_canDo_323 : decode prog_20_method_47_code 323 = .ok (.goto 4, 3) := by decide +kernel
theorem d_MD_canDo_326 : decode prog_20_method_47_code 326 = .ok (.iconst 0, 1) := by decide +kernel
theorem d_MD_canDo_327 : decode prog_20_method_47_code 327 = .ok (.ireturn, 1) := by decide +kernel
theorem d_MD_canDo_328 : decode prog_20_method_47_code 328 = .ok (.aload_n 0, 1) := by decide +kernel
theorem d_MD_canDo_329 : decode prog_20_method_47_code 329 = .ok (.getfield 56, 3) := by decide +kernel
theorem d_MD_canDo_332 : decode prog_20_method_47_code 332 = .ok (.iload 7, 2) := by decide +kernel
theorem d_MD_canDo_334 : decode prog_20_method_47_code 334 = .ok (.iaload, 1) := by decide +kernel
theorem d_MD_canDo_335 : decode prog_20_method_47_code 335 = .ok (.ifCond .ne 79, 3) := by decide +kernel
theorem d_MD_canDo_338 : decode prog_20_method_47_code 338 = .ok (.iload_n 3, 1) := by decide +kernel
theorem d_MD_canDo_339 : decode prog_20_method_47_code 339 = .ok (.iconst 1, 1) := by decide +kernel
theorem d_MD_canDo_340 : decode prog_20_method_47_code 340 = .ok (.if_icmp .lt 74, 3) := by decide +kernel
theorem d_MD_canDo_343 : decode prog_20_method_47_code 343 = .ok (.iload_n 3, 1) := by decide +kernel
theorem d_MD_canDo_344 : decode prog_20_method_47_code 344 = .ok (.sipush 1000, 3) := by decide +kernel
theorem d_MD_canDo_347 : decode prog_20_method_47_code 347 = .ok (.if_icmp .gt 67, 3) := by decide +kernel
theorem d_MD_canDo_350 : decode prog_20_method_47_code 350 = .ok (.iload 4, 2) := by decide +kernel
theorem d_MD_canDo_352 : decode prog_20_method_47_code 352 = .ok (.iconst 1, 1) := by decide +kernel
theorem d_MD_canDo_353 : decode prog_20_method_47_code 353 = .ok (.if_icmp .lt 61, 3) := by decide +kernel
theorem d_MD_canDo_356 : decode prog_20_method_47_code 356 = .ok (.iload 4, 2) := by decide +kernel
theorem d_MD_canDo_358 : decode prog_20_method_47_code 358 = .ok (.sipush 1000, 3) := by decide +kernel
theorem d_MD_canDo_361 : decode prog_20_method_47_code 361 = .ok (.if_icmp .gt 53, 3) := by decide +kernel
theorem d_MD_canDo_364 : decode prog_20_method_47_code 364 = .ok (.iload_n 3, 1) := by decide +kernel
theorem d_MD_canDo_365 : decode prog_20_method_47_code 365 = .ok (.i2l, 1) := by decide +kernel
theorem d_MD_canDo_366 : decode prog_20_method_47_code 366 = .ok (.aload_n 0, 1) := by decide +kernel
theorem d_MD_canDo_367 : decode prog_20_method_47_code 367 = .ok (.getfield 59, 3) := by decide +kernel
theorem d_MD_canDo_370 : decode prog_20_method_47_code 370 = .ok (.iload 7, 2) := by decide +kernel
theorem d_MD_canDo_372 : decode prog_20_method_47_code 372 = .ok (.iaload, 1) := by decide +kernel
theorem d_MD_canDo_373 : decode prog_20_method_47_code 373 = .ok (.i2l, 1) := by decide +kernel
theorem d_MD_canDo_374 : decode prog_20_method_47_code 374 = .ok (.lmul, 1) := by decide +kernel
theorem d_MD_canDo_375 : decode prog_20_method_47_code 375 = .ok (.iload 4, 2) := by decide +kernel
theorem d_MD_canDo_377 : decode prog_20_method_47_code 377 = .ok (.i2l, 1) := by decide +kernel
theorem d_MD_canDo_378 : decode prog_20_method_47_code 378 = .ok (.invokestatic 184, 3) := by decide +kernel
theorem d_MD_canDo_381 : decode prog_20_method_47_code 381 = .ok (.invokestatic 266, 3) := by decide +kernel
theorem d_MD_canDo_384 : decode prog_20_method_47_code 384 = .ok (.ifCond .eq 30, 3) := by decide +kernel
theorem d_MD_canDo_387 : decode prog_20_method_47_code 387 = .ok (.iload_n 3, 1) := by decide +kernel
theorem d_MD_canDo_388 : decode prog_20_method_47_code 388 = .ok (.i2l, 1) := by decide +kernel
theorem d_MD_canDo_389 : decode prog_20_method_47_code 389 = .ok (.aload_n 0, 1) := by decide +kernel
theorem d_MD_canDo_390 : decode prog_20_method_47_code 390 = .ok (.getfield 62, 3) := by decide +kernel
theorem d_MD_canDo_393 : decode prog_20_method_47_code 393 = .ok (.iload 7, 2) := by decide +kernel
theorem d_MD_canDo_395 : decode prog_20_method_47_code 395 = .ok (.iaload, 1) := by decide +kernel
theorem d_MD_canDo_396 : decode prog_20_method_47_code 396 = .ok (.i2l, 1) := by decide +kernel
theorem d_MD_canDo_397 : decode prog_20_method_47_code 397 = .ok (.lmul, 1) := by decide +kernel
theorem d_MD_canDo_398 : decode prog_20_method_47_code 398 = .ok (.iload 4, 2) := by decide +kernel
theorem d_MD_canDo_400 : decode prog_20_method_47_code 400 = .ok (.i2l, 1) := by decide +kernel
theorem d_MD_canDo_401 : decode prog_20_method_47_code 401 = .ok (.invokestatic 184, 3) := by decide +kernel
theorem d_MD_canDo_404 : decode prog_20_method_47_code 404 = .ok (.invokestatic 266, 3) := by decide +kernel
theorem d_MD_canDo_407 : decode prog_20_method_47_code 407 = .ok (.ifCond .eq 7, 3) := by decide +kernel
theorem d_MD_canDo_410 : decode prog_20_method_47_code 410 = .ok (.iconst 1, 1) := by decide +kernel
theorem d_MD_canDo_411 : decode prog_20_method_47_code 411 = .ok (.goto 4, 3) := by decide +kernel
theorem d_MD_canDo_414 : decode prog_20_method_47_code 414 = .ok (.iconst 0, 1) := by decide +kernel
theorem d_MD_canDo_415 : decode prog_20_method_47_code 415 = .ok (.ireturn, 1) := by decide +kernel
theorem d_MD_canDo_416 : decode prog_20_method_47_code 416 = .ok (.aload_n 0, 1) := by decide +kernel
theorem d_MD_canDo_417 : decode prog_20_method_47_code 417 = .ok (.getfield 56, 3) := by decide +kernel
theorem d_MD_canDo_420 : decode prog_20_method_47_code 420 = .ok (.iload 7, 2) := by decide +kernel
theorem d_MD_canDo_422 : decode prog_20_method_47_code 422 = .ok (.iaload, 1) := by decide +kernel
theorem d_MD_canDo_423 : decode prog_20_method_47_code 423 = .ok (.ifCond .ne 59, 3) := by decide +kernel
theorem d_MD_canDo_426 : decode prog_20_method_47_code 426 = .ok (.iload_n 3, 1) := by decide +kernel
theorem d_MD_canDo_427 : decode prog_20_method_47_code 427 = .ok (.iload 4, 2) := by decide +kernel
theorem d_MD_canDo_429 : decode prog_20_method_47_code 429 = .ok (.if_icmp .eq 53, 3) := by decide +kernel
theorem d_MD_canDo_432 : decode prog_20_method_47_code 432 = .ok (.iload_n 3, 1) := by decide +kernel
theorem d_MD_canDo_433 : decode prog_20_method_47_code 433 = .ok (.aload_n 0, 1) := by decide +kernel
theorem d_MD_canDo_434 : decode prog_20_method_47_code 434 = .ok (.getfield 59, 3) := by decide +kernel
theorem d_MD_canDo_437 : decode prog_20_method_47_code 437 = .ok (.iload 7, 2) := by decide +kernel
theorem d_MD_canDo_439 : decode prog_20_method_47_code 439 = .ok (.iaload, 1) := by decide +kernel
theorem d_MD_canDo_440 : decode prog_20_method_47_code 440 = .ok (.if_icmp .lt 42, 3) := by decide +kernel
theorem d_MD_canDo_443 : decode prog_20_method_47_code 443 = .ok (.iload_n 3, 1) := by decide +kernel
theorem d_MD_canDo_444 : decode prog_20_method_47_code 444 = .ok (.aload_n 0, 1) := by decide +kernel
theorem d_MD_canDo_445 : decode prog_20_method_47_code 445 = .ok (.getfield 62, 3) := by decide +kernel
theorem d_MD_canDo_448 : decode prog_20_method_47_code 448 = .ok (.iload 7, 2) := by decide +kernel
theorem d_MD_canDo_450 : decode prog_20_method_47_code 450 = .ok (.iaload, 1) := by decide +kernel
theorem d_MD_canDo_451 : decode prog_20_method_47_code 451 = .ok (.if_icmp .gt 31, 3) := by decide +kernel
theorem d_MD_canDo_454 : decode prog_20_method_47_code 454 = .ok (.iload 4, 2) := by decide +kernel
theorem d_MD_canDo_456 : decode prog_20_method_47_code 456 = .ok (.aload_n 0, 1) := by decide +kernel
theorem d_MD_canDo_457 : decode prog_20_method_47_code 457 = .ok (.getfield 59, 3) := by decide +kernel
theorem d_MD_canDo_460 : decode prog_20_method_47_code 460 = .ok (.iload 7, 2) := by decide +kernel
theorem d_MD_canDo_462 : decode prog_20_method_47_code 462 = .ok (.iaload, 1) := by decide +kernel
theorem d_MD_canDo_463 : decode prog_20_method_47_code 463 = .ok (.if_icmp .lt 19, 3) := by decide +kernel
theorem d_MD_canDo_466 : decode prog_20_method_47_code 466 = .ok (.iload 4, 2) := by decide +kernel
theorem d_MD_canDo_468 : decode prog_20_method_47_code 468 = .ok (.aload_n 0, 1) := by decide +kernel
theorem d_MD_canDo_469 : decode prog_20_method_47_code 469 = .ok (.getfield 62, 3) := by decide +kernel
theorem d_MD_canDo_472 : decode prog_20_method_47_code 472 = .ok (.iload 7, 2) := by decide +kernel
theorem d_MD_canDo_474 : decode prog_20_method_47_code 474 = .ok (.iaload, 1) := by decide +kernel
theorem d_MD_canDo_475 : decode prog_20_method_47_code 475 = .ok (.if_icmp .gt 7, 3) := by decide +kernel
theorem d_MD_canDo_478 : decode prog_20_method_47_code 478 = .ok (.iconst 1, 1) := by decide +kernel
theorem d_MD_canDo_479 : decode prog_20_method_47_code 479 = .ok (.goto 4, 3) := by decide +kernel
theorem d_MD_canDo_482 : decode prog_20_method_47_code 482 = .ok (.iconst 0, 1) := by decide +kernel
theorem d_MD_canDo_483 : decode prog_20_method_47_code 483 = .ok (.ireturn, 1) := by decide +kernel
theorem d_MD_canDo_484 : decode prog_20_method_47_code 484 = .ok (.aload_n 0, 1) := by decide +kernel
theorem d_MD_canDo_485 : decode prog_20_method_47_code 485 = .ok (.getfield 56, 3) := by decide +kernel
theorem d_MD_canDo_488 : decode prog_20_method_47_code 488 = .ok (.iload 7, 2) := by decide +kernel
theorem d_MD_canDo_490 : decode prog_20_method_47_code 490 = .ok (.iaload, 1) := by decide +kernel
theorem d_MD_canDo_491 : decode prog_20_method_47_code 491 = .ok (.iconst 1, 1) := by decide +kernel
theorem d_MD_canDo_492 : decode prog_20_method_47_code 492 = .ok (.if_icmp .ne 7, 3) := by decide +kernel
theorem d_MD_canDo_495 : decode prog_20_method_47_code 495 = .ok (.iconst 1, 1) := by decide +kernel
theorem d_MD_canDo_496 : decode prog_20_method_47_code 496 = .ok (.goto 4, 3) := by decide +kernel
theorem d_MD_canDo_499 : decode prog_20_method_47_code 499 = .ok (.iconst 0, 1) := by decide +kernel
theorem d_MD_canDo_500 : decode prog_20_method_47_code 500 = .ok (.ireturn, 1) := by decide +kernel
theorem d_MD_canDo_501 : decode prog_20_method_47_code 501 = .ok (.iconst 0, 1) := by decide +kernel
theorem d_MD_canDo_502 : decode prog_20_method_47_code 502 = .ok (.ireturn, 1) := by decide +kernel
theorem d_MD_primitive_0 : decode prog_20_method_48_code 0 = .ok (.aload_n 0, 1) := by decide +kernel
theorem d_MD_primitive_1 : decode prog_20_method_48_code 1 = .ok (.aload_n 0, 1) := by decide +kernel
theorem d_MD_primitive_2 : decode prog_20_method_48_code 2 = .ok (.getfield 257, 3) := by decide +kernel
theorem d_MD_primitive_5 : decode prog_20_method_48_code 5 = .ok (.ifCond .eq 17, 3) := by decide +kernel
theorem d_MD_primitive_8 : decode prog_20_method_48_code 8 = .ok (.aload_n 0, 1) := by decide +kernel
theorem d_MD_primitive_9 : decode prog_20_method_48_code 9 = .ok (.getfield 35, 3) := by decide +kernel
theorem d_MD_primitive_12 : decode prog_20_method_48_code 12 = .ok (.aload_n 0, 1) := by decide +kernel
theorem d_MD_primitive_13 : decode prog_20_method_48_code 13 = .ok (.getfield 260, 3) := by decide +kernel
theorem d_MD_primitive_16 : decode prog_20_method_48_code 16 = .ok (.iaload, 1) := by decide +kernel
theorem d_MD_primitive_17 : decode prog_20_method_48_code 17 = .ok (.bipush 8, 2) := by decide +kernel
theorem d_MD_primitive_19 : decode prog_20_method_48_code 19 = .ok (.if_icmp .ne 7, 3) := by decide +kernel
theorem d_MD_primitive_22 : decode prog_20_method_48_code 22 = .ok (.iconst 1, 1) := by decide +kernel
theorem d_MD_primitive_23 : decode prog_20_method_48_code 23 = .ok (.goto 4, 3) := by decide +kernel
theorem d_MD_primitive_26 : decode prog_20_method_48_code 26 = .ok (.iconst 0, 1) := by decide +kernel
theorem d_MD_primitive_27 : decode prog_20_method_48_code 27 = .ok (.putfield 101, 3) := by decide +kernel
theorem d_MD_primitive_30 : decode prog_20_method_48_code 30 = .ok (.aload_n 0, 1) := by decide +kernel
theorem d_MD_primitive_31 : decode prog_20_method_48_code 31 = .ok (.getfield 101, 3) := by decide +kernel
theorem d_MD_primitive_34 : decode prog_20_method_48_code 34 = .ok (.ifCond .le 5, 3) := by decide +kernel
theorem d_MD_primitive_37 : decode prog_20_method_48_code 37 = .ok (.iconst 0, 1) := by decide +kernel
theorem d_MD_primitive_38 : decode prog_20_method_48_code 38 = .ok (.ireturn, 1) := by decide +kernel
theorem d_MD_primitive_39 : decode prog_20_method_48_code 39 = .ok (.aload_n 0, 1) := by decide +kernel
theorem d_MD_primitive_40 : decode prog_20_method_48_code 40 = .ok (.invokevirtual 270, 3) := by decide +kernel
theorem d_MD_primitive_43 : decode prog_20_method_48_code 43 = .ok (.aload_n 0, 1) := by decide +kernel
theorem d_MD_primitive_44 : decode prog_20_method_48_code 44 = .ok (.iload_n 1, 1) := by decide +kernel
theorem d_MD_primitive_45 : decode prog_20_method_48_code 45 = .ok (.ifCond .lt 27, 3) := by decide +kernel
theorem d_MD_primitive_48 : decode prog_20_method_48_code 48 = .ok (.iload_n 1, 1) := by decide +kernel
theorem d_MD_primitive_49 : decode prog_20_method_48_code 49 = .ok (.bipush 8, 2) := by decide +kernel
theorem d_MD_primitive_51 : decode prog_20_method_48_code 51 = .ok (.if_icmp .gt 21, 3) := by decide +kernel
theorem d_MD_primitive_54 : decode prog_20_method_48_code 54 = .ok (.aload_n 0, 1) := by decide +kernel
theorem d_MD_primitive_55 : decode prog_20_method_48_code 55 = .ok (.iload_n 1, 1) := by decide +kernel
theorem d_MD_primitive_56 : decode prog_20_method_48_code 56 = .ok (.iload_n 2, 1) := by decide +kernel
theorem d_MD_primitive_57 : decode prog_20_method_48_code 57 = .ok (.iload_n 3, 1) := by decide +kernel
theorem d_MD_primitive_58 : decode prog_20_method_48_code 58 = .ok (.iload 4, 2) := by decide +kernel
theorem d_MD_primitive_60 : decode prog_20_method_48_code 60 = .ok (.iload 5, 2) := by decide +kernel
theorem d_MD_primitive_62 : decode prog_20_method_48_code 62 = .ok (.invokevirtual 273, 3) := by decide +kernel
theorem d_MD_primitive_65 : decode prog_20_method_48_code 65 = .ok (.ifCond .eq 7, 3) := by decide +kernel
theorem d_MD_primitive_68 : decode prog_20_method_48_code 68 = .ok (.iconst 0, 1) := by decide +kernel
theorem d_MD_primitive_69 : decode prog_20_method_48_code 69 = .ok (.goto 4, 3) := by decide +kernel
theorem d_MD_primitive_72 : decode prog_20_method_48_code 72 = .ok (.iconst 2, 1) := by decide +kernel
theorem d_MD_primitive_73 : decode prog_20_method_48_code 73 = .ok (.putfield 101, 3) := by decide +kernel
theorem d_MD_primitive_76 : decode prog_20_method_48_code 76 = .ok (.aload_n 0, 1) := by decide +kernel
theorem d_MD_primitive_77 : decode prog_20_method_48_code 77 = .ok (.getfield 101, 3) := by decide +kernel
theorem d_MD_primitive_80 : decode prog_20_method_48_code 80 = .ok (.ifCond .le 5, 3) := by decide +kernel
theorem d_MD_primitive_83 : decode prog_20_method_48_code 83 = .ok (.iconst 0, 1) := by decide +kernel
theorem d_MD_primitive_84 : decode prog_20_method_48_code 84 = .ok (.ireturn, 1) := by decide +kernel
theorem d_MD_primitive_85 : decode prog_20_method_48_code 85 = .ok (.aload_n 0, 1) := by decide +kernel
theorem d_MD_primitive_86 : decode prog_20_method_48_code 86 = .ok (.aload_n 0, 1) := by decide +kernel
theorem d_MD_primitive_87 : decode prog_20_method_48_code 87 = .ok (.getfield 260, 3) := by decide +kernel
theorem d_MD_primitive_90 : decode prog_20_method_48_code 90 = .ok (.aload_n 0, 1) := by decide +kernel
theorem d_MD_primitive_91 : decode prog_20_method_48_code 91 = .ok (.getfield 35, 3) := by decide +kernel
theorem d_MD_primitive_94 : decode prog_20_method_48_code 94 = .ok (.aload_n 0, 1) := by decide +kernel
theorem d_MD_primitive_95 : decode prog_20_method_48_code 95 = .ok (.getfield 260, 3) := by decide +kernel
theorem d_MD_primitive_98 : decode prog_20_method_48_code 98 = .ok (.iaload, 1) := by decide +kernel
theorem d_MD_primitive_99 : decode prog_20_method_48_code 99 = .ok (.invokevirtual 157, 3) := by decide +kernel
theorem d_MD_primitive_102 : decode prog_20_method_48_code 102 = .ok (.istore 6, 2) := by decide +kernel
theorem d_MD_primitive_104 : decode prog_20_method_48_code 104 = .ok (.aload_n 0, 1) := by decide +kernel
theorem d_MD_primitive_105 : decode prog_20_method_48_code 105 = .ok (.iload_n 2, 1) := by decide +kernel
theorem d_MD_primitive_106 : decode prog_20_method_48_code 106 = .ok (.invokevirtual 111, 3) := by decide +kernel
theorem d_MD_primitive_109 : decode prog_20_method_48_code 109 = .ok (.istore 7, 2) := by decide +kernel
theorem d_MD_primitive_111 : decode prog_20_method_48_code 111 = .ok (.aload_n 0, 1) := by decide +kernel
theorem d_MD_primitive_112 : decode prog_20_method_48_code 112 = .ok (.getfield 38, 3) := by decide +kernel
theorem d_MD_primitive_115 : decode prog_20_method_48_code 115 = .ok (.iload 6, 2) := by decide +kernel
theorem d_MD_primitive_117 : decode prog_20_method_48_code 117 = .ok (.iload_n 1, 1) := by decide +kernel
theorem d_MD_primitive_118 : decode prog_20_method_48_code 118 = .ok (.iastore, 1) := by decide +kernel
theorem d_MD_primitive_119 : decode prog_20_method_48_code 119 = .ok (.aload_n 0, 1) := by decide +kernel
theorem d_MD_primitive_120 : decode prog_20_method_48_code 120 = .ok (.getfield 38, 3) := by decide +kernel
theorem d_MD_primitive_123 : decode prog_20_method_48_code 123 = .ok (.iload 6, 2) := by decide +kernel
theorem d_MD_primitive_125 : decode prog_20_method_48_code 125 = .ok (.iconst 1, 1) := by decide +kernel
theorem d_MD_primitive_126 : decode prog_20_method_48_code 126 = .ok (.iadd, 1) := by decide +kernel
theorem d_MD_primitive_127 : decode prog_20_method_48_code 127 = .ok (.iload_n 2, 1) := by decide +kernel
theorem d_MD_primitive_128 : decode prog_20_method_48_code 128 = .ok (.iastore, 1) := by decide +kernel
theorem d_MD_primitive_129 : decode prog_20_method_48_code 129 = .ok (.aload_n 0, 1) := by decide +kernel
theorem d_MD_primitive_130 : decode prog_20_method_48_code 130 = .ok (.getfield 38, 3) := by decide +kernel
theorem d_MD_primitive_133 : decode prog_20_method_48_code 133 = .ok (.iload 6, 2) := by decide +kernel
theorem d_MD_primitive_135 : decode prog_20_method_48_code 135 = .ok (.iconst 2, 1) := by decide +kernel
theorem d_MD_primitive_136 : decode prog_20_method_48_code 136 = .ok (.iadd, 1) := by decide +kernel
theorem d_MD_primitive_137 : decode prog_20_method_48_code 137 = .ok (.iload_n 3, 1) := by decide +kernel
theorem d_MD_primitive_138 : decode prog_20_method_48_code 138 = .ok (.iastore, 1) := by decide +kernel
theorem d_MD_primitive_139 : decode prog_20_method_48_code 139 = .ok (.aload_n 0, 1) := by decide +kernel
theorem d_MD_primitive_140 : decode prog_20_method_48_code 140 = .ok (.getfield 38, 3) := by decide +kernel
theorem d_MD_primitive_143 : decode prog_20_method_48_code 143 = .ok (.iload 6, 2) := by decide +kernel
theorem d_MD_primitive_145 : decode prog_20_method_48_code 145 = .ok (.iconst 3, 1) := by decide +kernel
theorem d_MD_primitive_146 : decode prog_20_method_48_code 146 = .ok (.iadd, 1) := by decide +kernel
theorem d_MD_primitive_147 : decode prog_20_method_48_code 147 = .ok (.iload 4, 2) := by decide +kernel
theorem d_MD_primitive_149 : decode prog_20_method_48_code 149 = .ok (.iastore, 1) := by decide +kernel
theorem d_MD_primitive_150 : decode prog_20_method_48_code 150 = .ok (.aload_n 0, 1) := by decide +kernel
theorem d_MD_primitive_151 : decode prog_20_method_48_code 151 = .ok (.getfield 38, 3) := by decide +kernel
theorem d_MD_primitive_154 : decode prog_20_method_48_code 154 = .ok (.iload 6, 2) := by decide +kernel
theorem d_MD_primitive_156 : decode prog_20_method_48_code 156 = .ok (.iconst 5, 1) := by decide +kernel
theorem d_MD_primitive_157 : decode prog_20_method_48_code 157 = .ok (.iadd, 1) := by decide +kernel
theorem d_MD_primitive_158 : decode prog_20_method_48_code 158 = .ok (.iload_n 1, 1) := by decide +kernel
theorem d_MD_primitive_159 : decode prog_20_method_48_code 159 = .ok (.iconst 1, 1) := by decide +kernel
theorem d_MD_primitive_160 : decode prog_20_method_48_code 160 = .ok (.if_icmp .ne 7, 3) := by decide +kernel
theorem d_MD_primitive_163 : decode prog_20_method_48_code 163 = .ok (.iload_n 3, 1) := by decide +kernel
theorem d_MD_primitive_164 : decode prog_20_method_48_code 164 = .ok (.goto 10, 3) := by decide +kernel
theorem d_MD_primitive_167 : decode prog_20_method_48_code 167 = .ok (.aload_n 0, 1) := by decide +kernel
theorem d_MD_primitive_168 : decode prog_20_method_48_code 168 = .ok (.getfield 56, 3) := by decide +kernel
theorem d_MD_primitive_171 : decode prog_20_method_48_code 171 = .ok (.iload 7, 2) := by decide +kernel
theorem d_MD_primitive_173 : decode prog_20_method_48_code 173 = .ok (.iaload, 1) := by decide +kernel
theorem d_MD_primitive_174 : decode prog_20_method_48_code 174 = .ok (.iastore, 1) := by decide +kernel
theorem d_MD_primitive_175 : decode prog_20_method_48_code 175 = .ok (.aload_n 0, 1) := by decide +kernel
theorem d_MD_primitive_176 : decode prog_20_method_48_code 176 = .ok (.getfield 38, 3) := by decide +kernel
theorem d_MD_primitive_179 : decode prog_20_method_48_code 179 = .ok (.iload 6, 2) := by decide +kernel
theorem d_MD_primitive_181 : decode prog_20_method_48_code 181 = .ok (.bipush 6, 2) := by decide +kernel
theorem d_MD_primitive_183 : decode prog_20_method_48_code 183 = .ok (.iadd, 1) := by decide +kernel
theorem d_MD_primitive_184 : decode prog_20_method_48_code 184 = .ok (.iload_n 1, 1) := by decide +kernel
theorem d_MD_primitive_185 : decode prog_20_method_48_code 185 = .ok (.iconst 1, 1) := by decide +kernel
theorem d_MD_primitive_186 : decode prog_20_method_48_code 186 = .ok (.if_icmp .ne 17, 3) := by decide +kernel
theorem d_MD_primitive_189 : decode prog_20_method_48_code 189 = .ok (.iload_n 3, 1) := by decide +kernel
theorem d_MD_primitive_190 : decode prog_20_method_48_code 190 = .ok (.iconst 2, 1) := by decide +kernel
theorem d_MD_primitive_191 : decode prog_20_method_48_code 191 = .ok (.if_icmp .ne 7, 3) := by decide +kernel
theorem d_MD_primitive_194 : decode prog_20_method_48_code 194 = .ok (.iconst 0, 1) := by decide +kernel
theorem d_MD_primitive_195 : decode prog_20_method_48_code 195 = .ok (.goto 15, 3) := by decide +kernel
theorem d_MD_primitive_198 : decode prog_20_method_48_code 198 = .ok (.iload 4, 2) := by decide +kernel
theorem d_MD_primitive_200 : decode prog_20_method_48_code 200 = .ok (.goto 10, 3) := by decide +kernel
theorem d_MD_primitive_203 : decode prog_20_method_48_code 203 = .ok (.aload_n 0, 1) := by decide +kernel
theorem d_MD_primitive_204 : decode prog_20_method_48_code 204 = .ok (.getfield 59, 3) := by decide +kernel
theorem d_MD_primitive_207 : decode prog_20_method_48_code 207 = .ok (.iload 7, 2) := by decide +kernel
theorem d_MD_primitive_209 : decode prog_20_method_48_code 209 = .ok (.iaload, 1) := by decide +kernel
theorem d_MD_primitive_210 : decode prog_20_method_48_code 210 = .ok (.iastore, 1) := by decide +kernel
theorem d_MD_primitive_211 : decode prog_20_method_48_code 211 = .ok (.aload_n 0, 1) := by decide +kernel
theorem d_MD_primitive_212 : decode prog_20_method_48_code 212 = .ok (.getfield 38, 3) := by decide +kernel
theorem d_MD_primitive_215 : decode prog_20_method_48_code 215 = .ok (.iload 6, 2) := by decide +kernel
theorem d_MD_primitive_217 : decode prog_20_method_48_code 217 = .ok (.bipush 7, 2) := by decide +kernel
theorem d_MD_primitive_219 : decode prog_20_method_48_code 219 = .ok (.iadd, 1) := by decide +kernel
theorem d_MD_primitive_220 : decode prog_20_method_48_code 220 = .ok (.iload_n 1, 1) := by decide +kernel
theorem d_MD_primitive_221 : decode prog_20_method_48_code 221 = .ok (.iconst 1, 1) := by decide +kernel
theorem d_MD_primitive_222 : decode prog_20_method_48_code 222 = .ok (.if_icmp .ne 17, 3) := by decide +kernel
theorem d_MD_primitive_225 : decode prog_20_method_48_code 225 = .ok (.iload_n 3, 1) := by decide +kernel
theorem d_MD_primitive_226 : decode prog_20_method_48_code 226 = .ok (.iconst 2, 1) := by decide +kernel
theorem d_MD_primitive_227 : decode prog_20_method_48_code 227 = .ok (.if_icmp .ne 7, 3) := by decide +kernel
theorem d_MD_primitive_230 : decode prog_20_method_48_code 230 = .ok (.iconst 0, 1) := by decide +kernel
theorem d_MD_primitive_231 : decode prog_20_method_48_code 231 = .ok (.goto 15, 3) := by decide +kernel
theorem d_MD_primitive_234 : decode prog_20_method_48_code 234 = .ok (.iload 5, 2) := by decide +kernel
theorem d_MD_primitive_236 : decode prog_20_method_48_code 236 = .ok (.goto 10, 3) := by decide +kernel
theorem d_MD_primitive_239 : decode prog_20_method_48_code 239 = .ok (.aload_n 0, 1) := by decide +kernel
theorem d_MD_primitive_240 : decode prog_20_method_48_code 240 = .ok (.getfield 62, 3) := by decide +kernel
theorem d_MD_primitive_243 : decode prog_20_method_48_code 243 = .ok (.iload 7, 2) := by decide +kernel
theorem d_MD_primitive_245 : decode prog_20_method_48_code 245 = .ok (.iaload, 1) := by decide +kernel
theorem d_MD_primitive_246 : decode prog_20_method_48_code 246 = .ok (.iastore, 1) := by decide +kernel
theorem d_MD_primitive_247 : decode prog_20_method_48_code 247 = .ok (.aload_n 0, 1) := by decide +kernel
theorem d_MD_primitive_248 : decode prog_20_method_48_code 248 = .ok (.getfield 35, 3) := by decide +kernel
theorem d_MD_primitive_251 : decode prog_20_method_48_code 251 = .ok (.aload_n 0, 1) := by decide +kernel
theorem d_MD_primitive_252 : decode prog_20_method_48_code 252 = .ok (.getfield 260, 3) := by decide +kernel
theorem d_MD_primitive_255 : decode prog_20_method_48_code 255 = .ok (.dup2, 1) := by decide +kernel
theorem d_MD_primitive_256 : decode prog_20_method_48_code 256 = .ok (.iaload, 1) := by decide +kernel
theorem d_MD_primitive_257 : decode prog_20_method_48_code 257 = .ok (.iconst 1, 1) := by decide +kernel
theorem d_MD_primitive_258 : decode prog_20_method_48_code 258 = .ok (.iadd, 1) := by decide +kernel
theorem d_MD_primitive_259 : decode prog_20_method_48_code 259 = .ok (.iastore, 1) := by decide +kernel
theorem d_MD_primitive_260 : decode prog_20_method_48_code 260 = .ok (.aload_n 0, 1) := by decide +kernel
theorem d_MD_primitive_261 : decode prog_20_method_48_code 261 = .ok (.getfield 35, 3) := by decide +kernel
theorem d_MD_primitive_264 : decode prog_20_method_48_code 264 = .ok (.aload_n 0, 1) := by decide +kernel
theorem d_MD_primitive_265 : decode prog_20_method_48_code 265 = .ok (.getfield 260, 3) := by decide +kernel
theorem d_MD_primitive_268 : decode prog_20_method_48_code 268 = .ok (.iaload, 1) := by decide +kernel
theorem d_MD_primitive_269 : decode prog_20_method_48_code 269 = .ok (.ireturn, 1) := by decide +kernel
theorem d_MD_isSchema_0 : decode prog_20_method_49_code 0 = .ok (.aload_n 0, 1) := by decide +kernel
theorem d_MD_isSchema_1 : decode prog_20_method_49_code 1 = .ok (.getfield 108, 3) := by decide +kernel
theorem d_MD_isSchema_4 : decode prog_20_method_49_code 4 = .ok (.aload_n 0, 1) := by decide +kernel
theorem d_MD_isSchema_5 : decode prog_20_method_49_code 5 = .ok (.getfield 13, 3) := by decide +kernel
theorem d_MD_isSchema_8 : decode prog_20_method_49_code 8 = .ok (.iload_n 1, 1) := by decide +kernel
theorem d_MD_isSchema_9 : decode prog_20_method_49_code 9 = .ok (.iaload, 1) := by decide +kernel
theorem d_MD_isSchema_10 : decode prog_20_method_49_code 10 = .ok (.if_icmp .ne 7, 3) := by decide +kernel
theorem d_MD_isSchema_13 : decode prog_20_method_49_code 13 = .ok (.iconst 1, 1) := by decide +kernel
theorem d_MD_isSchema_14 : decode prog_20_method_49_code 14 = .ok (.goto 4, 3) := by decide +kernel
theorem d_MD_isSchema_17 : decode prog_20_method_49_code 17 = .ok (.iconst 0, 1) := by decide +kernel
theorem d_MD_isSchema_18 : decode prog_20_method_49_code 18 = .ok (.istore_n 2, 1) := by decide +kernel
theorem d_MD_isSchema_19 : decode prog_20_method_49_code 19 = .ok (.iconst 0, 1) := by decide +kernel
theorem d_MD_isSchema_20 : decode prog_20_method_49_code 20 = .ok (.istore_n 3, 1) := by decide +kernel
theorem d_MD_isSchema_21 : decode prog_20_method_49_code 21 = .ok (.iload_n 3, 1) := by decide +kernel
theorem d_MD_isSchema_22 : decode prog_20_method_49_code 22 = .ok (.aload_n 0, 1) := by decide +kernel
theorem d_MD_isSchema_23 : decode prog_20_method_49_code 23 = .ok (.getfield 13, 3) := by decide +kernel
theorem d_MD_isSchema_26 : decode prog_20_method_49_code 26 = .ok (.iload_n 1, 1) := by decide +kernel
theorem d_MD_isSchema_27 : decode prog_20_method_49_code 27 = .ok (.iaload, 1) := by decide +kernel
theorem d_MD_isSchema_28 : decode prog_20_method_49_code 28 = .ok (.if_icmp .ge 104, 3) := by decide +kernel
theorem d_MD_isSchema_31 : decode prog_20_method_49_code 31 = .ok (.iload_n 2, 1) := by decide +kernel
theorem d_MD_isSchema_32 : decode prog_20_method_49_code 32 = .ok (.ifCond .eq 100, 3) := by decide +kernel
theorem d_MD_isSchema_35 : decode prog_20_method_49_code 35 = .ok (.aload_n 0, 1) := by decide +kernel
theorem d_MD_isSchema_36 : decode prog_20_method_49_code 36 = .ok (.aload_n 0, 1) := by decide +kernel
theorem d_MD_isSchema_37 : decode prog_20_method_49_code 37 = .ok (.getfield 17, 3) := by decide +kernel
theorem d_MD_isSchema_40 : decode prog_20_method_49_code 40 = .ok (.bipush 24, 2) := by decide +kernel
theorem d_MD_isSchema_42 : decode prog_20_method_49_code 42 = .ok (.iload_n 1, 1) := by decide +kernel
theorem d_MD_isSchema_43 : decode prog_20_method_49_code 43 = .ok (.imul, 1) := by decide +kernel
theorem d_MD_isSchema_44 : decode prog_20_method_49_code 44 = .ok (.iload_n 3, 1) := by decide +kernel
theorem d_MD_isSchema_45 : decode prog_20_method_49_code 45 = .ok (.iadd, 1) := by decide +kernel
theorem d_MD_isSchema_46 : decode prog_20_method_49_code 46 = .ok (.iaload, 1) := by decide +kernel
theorem d_MD_isSchema_47 : decode prog_20_method_49_code 47 = .ok (.invokevirtual 111, 3) := by decide +kernel
theorem d_MD_isSchema_50 : decode prog_20_method_49_code 50 = .ok (.istore 4, 2) := by decide +kernel
theorem d_MD_isSchema_52 : decode prog_20_method_49_code 52 = .ok (.iload 4, 2) := by decide +kernel
theorem d_MD_isSchema_54 : decode prog_20_method_49_code 54 = .ok (.ifCond .lt 70, 3) := by decide +kernel
theorem d_MD_isSchema_57 : decode prog_20_method_49_code 57 = .ok (.aload_n 0, 1) := by decide +kernel
theorem d_MD_isSchema_58 : decode prog_20_method_49_code 58 = .ok (.getfield 56, 3) := by decide +kernel
theorem d_MD_isSchema_61 : decode prog_20_method_49_code 61 = .ok (.iload 4, 2) := by decide +kernel
theorem d_MD_isSchema_63 : decode prog_20_method_49_code 63 = .ok (.iaload, 1) := by decide +kernel
theorem d_MD_isSchema_64 : decode prog_20_method_49_code 64 = .ok (.aload_n 0, 1) := by decide +kernel
theorem d_MD_isSchema_65 : decode prog_20_method_49_code 65 = .ok (.getfield 20, 3) := by decide +kernel
theorem d_MD_isSchema_68 : decode prog_20_method_49_code 68 = .ok (.bipush 24, 2) := by decide +kernel
theorem d_MD_isSchema_70 : decode prog_20_method_49_code 70 = .ok (.iload_n 1, 1) := by decide +kernel
theorem d_MD_isSchema_71 : decode prog_20_method_49_code 71 = .ok (.imul, 1) := by decide +kernel
theorem d_MD_isSchema_72 : decode prog_20_method_49_code 72 = .ok (.iload_n 3, 1) := by decide +kernel
theorem d_MD_isSchema_73 : decode prog_20_method_49_code 73 = .ok (.iadd, 1) := by decide +kernel
theorem d_MD_isSchema_74 : decode prog_20_method_49_code 74 = .ok (.iaload, 1) := by decide +kernel
theorem d_MD_isSchema_75 : decode prog_20_method_49_code 75 = .ok (.if_icmp .ne 49, 3) := by decide +kernel
theorem d_MD_isSchema_78 : decode prog_20_method_49_code 78 = .ok (.aload_n 0, 1) := by decide +kernel
theorem d_MD_isSchema_79 : decode prog_20_method_49_code 79 = .ok (.getfield 59, 3) := by decide +kernel
theorem d_MD_isSchema_82 : decode prog_20_method_49_code 82 = .ok (.iload 4, 2) := by decide +kernel
theorem d_MD_isSchema_84 : decode prog_20_method_49_code 84 = .ok (.iaload, 1) := by decide +kernel
theorem d_MD_isSchema_85 : decode prog_20_method_49_code 85 = .ok (.aload_n 0, 1) := by decide +kernel
theorem d_MD_isSchema_86 : decode prog_20_method_49_code 86 = .ok (.getfield 23, 3) := by decide +kernel
theorem d_MD_isSchema_89 : decode prog_20_method_49_code 89 = .ok (.bipush 24, 2) := by decide +kernel
theorem d_MD_isSchema_91 : decode prog_20_method_49_code 91 = .ok (.iload_n 1, 1) := by decide +kernel
theorem d_MD_isSchema_92 : decode prog_20_method_49_code 92 = .ok (.imul, 1) := by decide +kernel
theorem d_MD_isSchema_93 : decode prog_20_method_49_code 93 = .ok (.iload_n 3, 1) := by decide +kernel
theorem d_MD_isSchema_94 : decode prog_20_method_49_code 94 = .ok (.iadd, 1) := by decide +kernel
theorem d_MD_isSchema_95 : decode prog_20_method_49_code 95 = .ok (.iaload, 1) := by decide +kernel
theorem d_MD_isSchema_96 : decode prog_20_method_49_code 96 = .ok (.if_icmp .ne 28, 3) := by decide +kernel
theorem d_MD_isSchema_99 : decode prog_20_method_49_code 99 = .ok (.aload_n 0, 1) := by decide +kernel
theorem d_MD_isSchema_100 : decode prog_20_method_49_code 100 = .ok (.getfield 62, 3) := by decide +kernel
theorem d_MD_isSchema_103 : decode prog_20_method_49_code 103 = .ok (.iload 4, 2) := by decide +kernel
theorem d_MD_isSchema_105 : decode prog_20_method_49_code 105 = .ok (.iaload, 1) := by decide +kernel
theorem d_MD_isSchema_106 : decode prog_20_method_49_code 106 = .ok (.aload_n 0, 1) := by decide +kernel
theorem d_MD_isSchema_107 : decode prog_20_method_49_code 107 = .ok (.getfield 26, 3) := by decide +kernel
theorem d_MD_isSchema_110 : decode prog_20_method_49_code 110 = .ok (.bipush 24, 2) := by decide +kernel
theorem d_MD_isSchema_112 : decode prog_20_method_49_code 112 = .ok (.iload_n 1, 1) := by decide +kernel
theorem d_MD_isSchema_113 : decode prog_20_method_49_code 113 = .ok (.imul, 1) := by decide +kernel
theorem d_MD_isSchema_114 : decode prog_20_method_49_code 114 = .ok (.iload_n 3, 1) := by decide +kernel
theorem d_MD_isSchema_115 : decode prog_20_method_49_code 115 = .ok (.iadd, 1) := by decide +kernel
theorem d_MD_isSchema_116 : decode prog_20_method_49_code 116 = .ok (.iaload, 1) := by decide +kernel
theorem d_MD_isSchema_117 : decode prog_20_method_49_code 117 = .ok (.if_icmp .ne 7, 3) := by decide +kernel
theorem d_MD_isSchema_120 : decode prog_20_method_49_code 120 = .ok (.iconst 1, 1) := by decide +kernel
theorem d_MD_isSchema_121 : decode prog_20_method_49_code 121 = .ok (.goto 4, 3) := by decide +kernel
theorem d_MD_isSchema_124 : decode prog_20_method_49_code 124 = .ok (.iconst 0, 1) := by decide +kernel
theorem d_MD_isSchema_125 : decode prog_20_method_49_code 125 = .ok (.istore_n 2, 1) := by decide +kernel
theorem d_MD_isSchema_126 : decode prog_20_method_49_code 126 = .ok (.iinc 3 1, 3) := by decide +kernel
theorem d_MD_isSchema_129 : decode prog_20_method_49_code 129 = .ok (.goto (-108), 3) := by decide +kernel
theorem d_MD_isSchema_132 : decode prog_20_method_49_code 132 = .ok (.iload_n 2, 1) := by decide +kernel
theorem d_MD_isSchema_133 : decode prog_20_method_49_code 133 = .ok (.ireturn, 1) := by decide +kernel
theorem d_MD_end_0 : decode prog_20_method_50_code 0 = .ok (.aload_n 0, 1) := by decide +kernel
theorem d_MD_end_1 : decode prog_20_method_50_code 1 = .ok (.aload_n 0, 1) := by decide +kernel
theorem d_MD_end_2 : decode prog_20_method_50_code 2 = .ok (.getfield 257, 3) := by decide +kernel
theorem d_MD_end_5 : decode prog_20_method_50_code 5 = .ok (.ifCond .ne 7, 3) := by decide +kernel
theorem d_MD_end_8 : decode prog_20_method_50_code 8 = .ok (.iconst 1, 1) := by decide +kernel
theorem d_MD_end_9 : decode prog_20_method_50_code 9 = .ok (.goto 21, 3) := by decide +kernel
theorem d_MD_end_12 : decode prog_20_method_50_code 12 = .ok (.iload_n 1, 1) := by decide +kernel
theorem d_MD_end_13 : decode prog_20_method_50_code 13 = .ok (.iconst (-1), 1) := by decide +kernel
theorem d_MD_end_14 : decode prog_20_method_50_code 14 = .ok (.if_icmp .eq 15, 3) := by decide +kernel
theorem d_MD_end_17 : decode prog_20_method_50_code 17 = .ok (.aload_n 0, 1) := by decide +kernel
theorem d_MD_end_18 : decode prog_20_method_50_code 18 = .ok (.iload_n 1, 1) := by decide +kernel
theorem d_MD_end_19 : decode prog_20_method_50_code 19 = .ok (.invokevirtual 254, 3) := by decide +kernel
theorem d_MD_end_22 : decode prog_20_method_50_code 22 = .ok (.ifCond .ne 7, 3) := by decide +kernel
theorem d_MD_end_25 : decode prog_20_method_50_code 25 = .ok (.iconst 2, 1) := by decide +kernel
theorem d_MD_end_26 : decode prog_20_method_50_code 26 = .ok (.goto 4, 3) := by decide +kernel
theorem d_MD_end_29 : decode prog_20_method_50_code 29 = .ok (.iconst 0, 1) := by decide +kernel
theorem d_MD_end_30 : decode prog_20_method_50_code 30 = .ok (.putfield 101, 3) := by decide +kernel
theorem d_MD_end_33 : decode prog_20_method_50_code 33 = .ok (.aload_n 0, 1) := by decide +kernel
theorem d_MD_end_34 : decode prog_20_method_50_code 34 = .ok (.getfield 101, 3) := by decide +kernel
theorem d_MD_end_37 : decode prog_20_method_50_code 37 = .ok (.ifCond .le 5, 3) := by decide +kernel
theorem d_MD_end_40 : decode prog_20_method_50_code 40 = .ok (.iconst 0, 1) := by decide +kernel
theorem d_MD_end_41 : decode prog_20_method_50_code 41 = .ok (.ireturn, 1) := by decide +kernel
theorem d_MD_end_42 : decode prog_20_method_50_code 42 = .ok (.aload_n 0, 1) := by decide +kernel
theorem d_MD_end_43 : decode prog_20_method_50_code 43 = .ok (.invokevirtual 270, 3) := by decide +kernel
theorem d_MD_end_46 : decode prog_20_method_50_code 46 = .ok (.aload_n 0, 1) := by decide +kernel
theorem d_MD_end_47 : decode prog_20_method_50_code 47 = .ok (.iload_n 1, 1) := by decide +kernel
theorem d_MD_end_48 : decode prog_20_method_50_code 48 = .ok (.iconst (-1), 1) := by decide +kernel
theorem d_MD_end_49 : decode prog_20_method_50_code 49 = .ok (.if_icmp .eq 28, 3) := by decide +kernel
theorem d_MD_end_52 : decode prog_20_method_50_code 52 = .ok (.iload_n 1, 1) := by decide +kernel
theorem d_MD_end_53 : decode prog_20_method_50_code 53 = .ok (.aload_n 0, 1) := by decide +kernel
theorem d_MD_end_54 : decode prog_20_method_50_code 54 = .ok (.getfield 29, 3) := by decide +kernel
theorem d_MD_end_57 : decode prog_20_method_50_code 57 = .ok (.aload_n 0, 1) := by decide +kernel
theorem d_MD_end_58 : decode prog_20_method_50_code 58 = .ok (.getfield 260, 3) := by decide +kernel
theorem d_MD_end_61 : decode prog_20_method_50_code 61 = .ok (.iaload, 1) := by decide +kernel
theorem d_MD_end_62 : decode prog_20_method_50_code 62 = .ok (.if_icmp .eq 11, 3) := by decide +kernel
theorem d_MD_end_65 : decode prog_20_method_50_code 65 = .ok (.aload_n 0, 1) := by decide +kernel
theorem d_MD_end_66 : decode prog_20_method_50_code 66 = .ok (.iload_n 1, 1) := by decide +kernel
theorem d_MD_end_67 : decode prog_20_method_50_code 67 = .ok (.invokevirtual 277, 3) := by decide +kernel
theorem d_MD_end_70 : decode prog_20_method_50_code 70 = .ok (.ifCond .ne 7, 3) := by decide +kernel
theorem d_MD_end_73 : decode prog_20_method_50_code 73 = .ok (.iconst 3, 1) := by decide +kernel
theorem d_MD_end_74 : decode prog_20_method_50_code 74 = .ok (.goto 31, 3) := by decide +kernel
theorem d_MD_end_77 : decode prog_20_method_50_code 77 = .ok (.iload_n 1, 1) := by decide +kernel
theorem d_MD_end_78 : decode prog_20_method_50_code 78 = .ok (.iconst (-1), 1) := by decide +kernel
theorem d_MD_end_79 : decode prog_20_method_50_code 79 = .ok (.if_icmp .ne 12, 3) := by decide +kernel
theorem d_MD_end_82 : decode prog_20_method_50_code 82 = .ok (.aload_n 0, 1) := by decide +kernel
theorem d_MD_end_83 : decode prog_20_method_50_code 83 = .ok (.getfield 7, 3) := by decide +kernel
theorem d_MD_end_86 : decode prog_20_method_50_code 86 = .ok (.bipush 8, 2) := by decide +kernel
theorem d_MD_end_88 : decode prog_20_method_50_code 88 = .ok (.if_icmp .eq 12, 3) := by decide +kernel
theorem d_MD_end_91 : decode prog_20_method_50_code 91 = .ok (.aload_n 0, 1) := by decide +kernel
theorem d_MD_end_92 : decode prog_20_method_50_code 92 = .ok (.getfield 260, 3) := by decide +kernel
theorem d_MD_end_95 : decode prog_20_method_50_code 95 = .ok (.bipush 16, 2) := by decide +kernel
theorem d_MD_end_97 : decode prog_20_method_50_code 97 = .ok (.if_icmp .ne 7, 3) := by decide +kernel
theorem d_MD_end_100 : decode prog_20_method_50_code 100 = .ok (.iconst 4, 1) := by decide +kernel
theorem d_MD_end_101 : decode prog_20_method_50_code 101 = .ok (.goto 4, 3) := by decide +kernel
theorem d_MD_end_104 : decode prog_20_method_50_code 104 = .ok (.iconst 0, 1) := by decide +kernel
theorem d_MD_end_105 : decode prog_20_method_50_code 105 = .ok (.putfield 101, 3) := by decide +kernel
theorem d_MD_end_108 : decode prog_20_method_50_code 108 = .ok (.aload_n 0, 1) := by decide +kernel
theorem d_MD_end_109 : decode prog_20_method_50_code 109 = .ok (.getfield 101, 3) := by decide +kernel
theorem d_MD_end_112 : decode prog_20_method_50_code 112 = .ok (.ifCond .le 5, 3) := by decide +kernel
theorem d_MD_end_115 : decode prog_20_method_50_code 115 = .ok (.iconst 0, 1) := by decide +kernel
theorem d_MD_end_116 : decode prog_20_method_50_code 116 = .ok (.ireturn, 1) := by decide +kernel
theorem d_MD_end_117 : decode prog_20_method_50_code 117 = .ok (.iload_n 1, 1) := by decide +kernel
theorem d_MD_end_118 : decode prog_20_method_50_code 118 = .ok (.istore_n 2, 1) := by decide +kernel
theorem d_MD_end_119 : decode prog_20_method_50_code 119 = .ok (.iload_n 1, 1) := by decide +kernel
theorem d_MD_end_120 : decode prog_20_method_50_code 120 = .ok (.iconst (-1), 1) := by decide +kernel
theorem d_MD_end_121 : decode prog_20_method_50_code 121 = .ok (.if_icmp .ne 23, 3) := by decide +kernel
theorem d_MD_end_124 : decode prog_20_method_50_code 124 = .ok (.aload_n 0, 1) := by decide +kernel
theorem d_MD_end_125 : decode prog_20_method_50_code 125 = .ok (.getfield 7, 3) := by decide +kernel
theorem d_MD_end_128 : decode prog_20_method_50_code 128 = .ok (.istore_n 2, 1) := by decide +kernel
theorem d_MD_end_129 : decode prog_20_method_50_code 129 = .ok (.aload_n 0, 1) := by decide +kernel
theorem d_MD_end_130 : decode prog_20_method_50_code 130 = .ok (.dup, 1) := by decide +kernel
theorem d_MD_end_131 : decode prog_20_method_50_code 131 = .ok (.getfield 7, 3) := by decide +kernel
theorem d_MD_end_134 : decode prog_20_method_50_code 134 = .ok (.iconst 1, 1) := by decide +kernel
theorem d_MD_end_135 : decode prog_20_method_50_code 135 = .ok (.iadd, 1) := by decide +kernel
theorem d_MD_end_136 : decode prog_20_method_50_code 136 = .ok (.putfield 7, 3) := by decide +kernel
theorem d_MD_end_139 : decode prog_20_method_50_code 139 = .ok (.aload_n 0, 1) := by decide +kernel
theorem d_MD_end_140 : decode prog_20_method_50_code 140 = .ok (.iload_n 2, 1) := by decide +kernel
theorem d_MD_end_141 : decode prog_20_method_50_code 141 = .ok (.invokevirtual 244, 3) := by decide +kernel
theorem d_MD_end_144 : decode prog_20_method_50_code 144 = .ok (.aload_n 0, 1) := by decide +kernel
theorem d_MD_end_145 : decode prog_20_method_50_code 145 = .ok (.getfield 32, 3) := by decide +kernel
theorem d_MD_end_148 : decode prog_20_method_50_code 148 = .ok (.aload_n 0, 1) := by decide +kernel
theorem d_MD_end_149 : decode prog_20_method_50_code 149 = .ok (.getfield 260, 3) := by decide +kernel
theorem d_MD_end_152 : decode prog_20_method_50_code 152 = .ok (.iload_n 2, 1) := by decide +kernel
theorem d_MD_end_153 : decode prog_20_method_50_code 153 = .ok (.iastore, 1) := by decide +kernel
theorem d_MD_end_154 : decode prog_20_method_50_code 154 = .ok (.aload_n 0, 1) := by decide +kernel
theorem d_MD_end_155 : decode prog_20_method_50_code 155 = .ok (.dup, 1) := by decide +kernel
theorem d_MD_end_156 : decode prog_20_method_50_code 156 = .ok (.getfield 260, 3) := by decide +kernel
theorem d_MD_end_159 : decode prog_20_method_50_code 159 = .ok (.iconst 1, 1) := by decide +kernel
theorem d_MD_end_160 : decode prog_20_method_50_code 160 = .ok (.iadd, 1) := by decide +kernel
theorem d_MD_end_161 : decode prog_20_method_50_code 161 = .ok (.putfield 260, 3) := by decide +kernel
theorem d_MD_end_164 : decode prog_20_method_50_code 164 = .ok (.aload_n 0, 1) := by decide +kernel
theorem d_MD_end_165 : decode prog_20_method_50_code 165 = .ok (.iconst 0, 1) := by decide +kernel
theorem d_MD_end_166 : decode prog_20_method_50_code 166 = .ok (.putfield 257, 3) := by decide +kernel
theorem d_MD_end_169 : decode prog_20_method_50_code 169 = .ok (.iload_n 2, 1) := by decide +kernel
theorem d_MD_end_170 : decode prog_20_method_50_code 170 = .ok (.ireturn, 1) := by decide +kernel
theorem d_MD_leave_0 : decode prog_20_method_51_code 0 = .ok (.aload_n 0, 1) := by decide +kernel
theorem d_MD_leave_1 : decode prog_20_method_51_code 1 = .ok (.iconst 0, 1) := by decide +kernel
theorem d_MD_leave_2 : decode prog_20_method_51_code 2 = .ok (.putfield 101, 3) := by decide +kernel
theorem d_MD_leave_5 : decode prog_20_method_51_code 5 = .ok (.aload_n 0, 1) := by decide +kernel
theorem d_MD_leave_6 : decode prog_20_method_51_code 6 = .ok (.getfield 257, 3) := by decide +kernel
theorem d_MD_leave_9 : decode prog_20_method_51_code 9 = .ok (.istore_n 1, 1) := by decide +kernel
theorem d_MD_leave_10 : decode prog_20_method_51_code 10 = .ok (.aload_n 0, 1) := by decide +kernel
theorem d_MD_leave_11 : decode prog_20_method_51_code 11 = .ok (.iconst 0, 1) := by decide +kernel
theorem d_MD_leave_12 : decode prog_20_method_51_code 12 = .ok (.putfield 257, 3) := by decide +kernel
theorem d_MD_leave_15 : decode prog_20_method_51_code 15 = .ok (.iload_n 1, 1) := by decide +kernel
theorem d_MD_leave_16 : decode prog_20_method_51_code 16 = .ok (.ireturn, 1) := by decide +kernel
