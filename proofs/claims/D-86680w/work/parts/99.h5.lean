set_option maxRecDepth 100000
set_option maxHeartbeats 4000000
theorem dJ4___HI_0 : decode cJ4___HI 0 = .ok (.dload_n 0, 1) := by decide +kernel
theorem dJ4___HI_1 : decode cJ4___HI 1 = .ok (.invokestatic 16, 3) := by decide +kernel
theorem dJ4___HI_4 : decode cJ4___HI 4 = .ok (.lstore_n 2, 1) := by decide +kernel
theorem dJ4___HI_5 : decode cJ4___HI 5 = .ok (.lload_n 2, 1) := by decide +kernel
theorem dJ4___HI_6 : decode cJ4___HI 6 = .ok (.bipush 32, 2) := by decide +kernel
theorem dJ4___HI_8 : decode cJ4___HI 8 = .ok (.lshr, 1) := by decide +kernel
theorem dJ4___HI_9 : decode cJ4___HI 9 = .ok (.l2i, 1) := by decide +kernel
theorem dJ4___HI_10 : decode cJ4___HI 10 = .ok (.ireturn, 1) := by decide +kernel
theorem dJ4___LO_0 : decode cJ4___LO 0 = .ok (.dload_n 0, 1) := by decide +kernel
theorem dJ4___LO_1 : decode cJ4___LO 1 = .ok (.invokestatic 16, 3) := by decide +kernel
theorem dJ4___LO_4 : decode cJ4___LO 4 = .ok (.lstore_n 2, 1) := by decide +kernel
theorem dJ4___LO_5 : decode cJ4___LO 5 = .ok (.lload_n 2, 1) := by decide +kernel
theorem dJ4___LO_6 : decode cJ4___LO 6 = .ok (.l2i, 1) := by decide +kernel
theorem dJ4___LO_7 : decode cJ4___LO 7 = .ok (.ireturn, 1) := by decide +kernel
theorem dJ4___HI_LO_0 : decode cJ4___HI_LO 0 = .ok (.iload_n 0, 1) := by decide +kernel
theorem dJ4___HI_LO_1 : decode cJ4___HI_LO 1 = .ok (.i2l, 1) := by decide +kernel
theorem dJ4___HI_LO_2 : decode cJ4___HI_LO 2 = .ok (.bipush 32, 2) := by decide +kernel
theorem dJ4___HI_LO_4 : decode cJ4___HI_LO 4 = .ok (.lshl, 1) := by decide +kernel
theorem dJ4___HI_LO_5 : decode cJ4___HI_LO 5 = .ok (.iload_n 1, 1) := by decide +kernel
theorem dJ4___HI_LO_6 : decode cJ4___HI_LO 6 = .ok (.i2l, 1) := by decide +kernel
theorem dJ4___HI_LO_7 : decode cJ4___HI_LO 7 = .ok (.ldc2_w 22, 3) := by decide +kernel
theorem dJ4___HI_LO_10 : decode cJ4___HI_LO 10 = .ok (.land, 1) := by decide +kernel
theorem dJ4___HI_LO_11 : decode cJ4___HI_LO 11 = .ok (.lor, 1) := by decide +kernel
theorem dJ4___HI_LO_12 : decode cJ4___HI_LO 12 = .ok (.invokestatic 24, 3) := by decide +kernel
theorem dJ4___HI_LO_15 : decode cJ4___HI_LO 15 = .ok (.dreturn, 1) := by decide +kernel
theorem dJ5_compareUnsigned_0 : decode cJ5_compareUnsigned 0 = .ok (.iload_n 0, 1) := by decide +kernel
theorem dJ5_compareUnsigned_1 : decode cJ5_compareUnsigned 1 = .ok (.ldc 127, 2) := by decide +kernel
theorem dJ5_compareUnsigned_3 : decode cJ5_compareUnsigned 3 = .ok (.iadd, 1) := by decide +kernel
theorem dJ5_compareUnsigned_4 : decode cJ5_compareUnsigned 4 = .ok (.iload_n 1, 1) := by decide +kernel
theorem dJ5_compareUnsigned_5 : decode cJ5_compareUnsigned 5 = .ok (.ldc 127, 2) := by decide +kernel
theorem dJ5_compareUnsigned_7 : decode cJ5_compareUnsigned 7 = .ok (.iadd, 1) := by decide +kernel
theorem dJ5_compareUnsigned_8 : decode cJ5_compareUnsigned 8 = .ok (.invokestatic 259, 3) := by decide +kernel
theorem dJ5_compareUnsigned_11 : decode cJ5_compareUnsigned 11 = .ok (.ireturn, 1) := by decide +kernel
theorem dJ3_compute_0 : decode cJ3_compute 0 = .ok (.dconst 0, 1) := by decide +kernel
theorem dJ3_compute_1 : decode cJ3_compute 1 = .ok (.dstore_n 2, 1) := by decide +kernel
theorem dJ3_compute_2 : decode cJ3_compute 2 = .ok (.ldc 12, 2) := by decide +kernel
theorem dJ3_compute_4 : decode cJ3_compute 4 = .ok (.istore 4, 2) := by decide +kernel
theorem dJ3_compute_6 : decode cJ3_compute 6 = .ok (.dload_n 0, 1) := by decide +kernel
theorem dJ3_compute_7 : decode cJ3_compute 7 = .ok (.invokestatic 13, 3) := by decide +kernel
theorem dJ3_compute_10 : decode cJ3_compute 10 = .ok (.istore 10, 2) := by decide +kernel
theorem dJ3_compute_12 : decode cJ3_compute 12 = .ok (.dload_n 0, 1) := by decide +kernel
theorem dJ3_compute_13 : decode cJ3_compute 13 = .ok (.invokestatic 17, 3) := by decide +kernel
theorem dJ3_compute_16 : decode cJ3_compute 16 = .ok (.istore 8, 2) := by decide +kernel
theorem dJ3_compute_18 : decode cJ3_compute 18 = .ok (.iload 10, 2) := by decide +kernel
theorem dJ3_compute_20 : decode cJ3_compute 20 = .ok (.ldc 20, 2) := by decide +kernel
theorem dJ3_compute_22 : decode cJ3_compute 22 = .ok (.iand, 1) := by decide +kernel
theorem dJ3_compute_23 : decode cJ3_compute 23 = .ok (.ldc 20, 2) := by decide +kernel
theorem dJ3_compute_25 : decode cJ3_compute 25 = .ok (.if_icmp .ne 9, 3) := by decide +kernel
theorem dJ3_compute_34 : decode cJ3_compute 34 = .ok (.iload 10, 2) := by decide +kernel
theorem dJ3_compute_36 : decode cJ3_compute 36 = .ok (.ifCond .gt 31, 3) := by decide +kernel
theorem dJ3_compute_39 : decode cJ3_compute 39 = .ok (.iload 10, 2) := by decide +kernel
theorem dJ3_compute_41 : decode cJ3_compute 41 = .ok (.iload 4, 2) := by decide +kernel
theorem dJ3_compute_43 : decode cJ3_compute 43 = .ok (.iconst (-1), 1) := by decide +kernel
theorem dJ3_compute_44 : decode cJ3_compute 44 = .ok (.ixor, 1) := by decide +kernel
theorem dJ3_compute_45 : decode cJ3_compute 45 = .ok (.iand, 1) := by decide +kernel
theorem dJ3_compute_46 : decode cJ3_compute 46 = .ok (.iload 8, 2) := by decide +kernel
theorem dJ3_compute_48 : decode cJ3_compute 48 = .ok (.ior, 1) := by decide +kernel
theorem dJ3_compute_49 : decode cJ3_compute 49 = .ok (.ifCond .ne 5, 3) := by decide +kernel
theorem dJ3_compute_52 : decode cJ3_compute 52 = .ok (.dload_n 0, 1) := by decide +kernel
theorem dJ3_compute_53 : decode cJ3_compute 53 = .ok (.dreturn, 1) := by decide +kernel
theorem dJ3_compute_54 : decode cJ3_compute 54 = .ok (.iload 10, 2) := by decide +kernel
theorem dJ3_compute_56 : decode cJ3_compute 56 = .ok (.ifCond .ge 11, 3) := by decide +kernel
theorem dJ3_compute_67 : decode cJ3_compute 67 = .ok (.iload 10, 2) := by decide +kernel
theorem dJ3_compute_69 : decode cJ3_compute 69 = .ok (.bipush 20, 2) := by decide +kernel
theorem dJ3_compute_71 : decode cJ3_compute 71 = .ok (.ishr, 1) := by decide +kernel
theorem dJ3_compute_72 : decode cJ3_compute 72 = .ok (.istore 13, 2) := by decide +kernel
theorem dJ3_compute_74 : decode cJ3_compute 74 = .ok (.iload 13, 2) := by decide +kernel
theorem dJ3_compute_76 : decode cJ3_compute 76 = .ok (.ifCond .ne 83, 3) := by decide +kernel
theorem dJ3_compute_79 : decode cJ3_compute 79 = .ok (.iload 10, 2) := by decide +kernel
theorem dJ3_compute_81 : decode cJ3_compute 81 = .ok (.ifCond .ne 26, 3) := by decide +kernel
theorem dJ3_compute_84 : decode cJ3_compute 84 = .ok (.iinc 13 (-21), 3) := by decide +kernel
theorem dJ3_compute_87 : decode cJ3_compute 87 = .ok (.iload 10, 2) := by decide +kernel
theorem dJ3_compute_89 : decode cJ3_compute 89 = .ok (.iload 8, 2) := by decide +kernel
theorem dJ3_compute_91 : decode cJ3_compute 91 = .ok (.bipush 11, 2) := by decide +kernel
theorem dJ3_compute_93 : decode cJ3_compute 93 = .ok (.iushr, 1) := by decide +kernel
theorem dJ3_compute_94 : decode cJ3_compute 94 = .ok (.ior, 1) := by decide +kernel
theorem dJ3_compute_95 : decode cJ3_compute 95 = .ok (.istore 10, 2) := by decide +kernel
theorem dJ3_compute_97 : decode cJ3_compute 97 = .ok (.iload 8, 2) := by decide +kernel
theorem dJ3_compute_99 : decode cJ3_compute 99 = .ok (.bipush 21, 2) := by decide +kernel
theorem dJ3_compute_101 : decode cJ3_compute 101 = .ok (.ishl, 1) := by decide +kernel
theorem dJ3_compute_102 : decode cJ3_compute 102 = .ok (.istore 8, 2) := by decide +kernel
theorem dJ3_compute_104 : decode cJ3_compute 104 = .ok (.goto (-25), 3) := by decide +kernel
theorem dJ3_compute_107 : decode cJ3_compute 107 = .ok (.iconst 0, 1) := by decide +kernel
theorem dJ3_compute_108 : decode cJ3_compute 108 = .ok (.istore 15, 2) := by decide +kernel
theorem dJ3_compute_110 : decode cJ3_compute 110 = .ok (.iload 10, 2) := by decide +kernel
theorem dJ3_compute_112 : decode cJ3_compute 112 = .ok (.ldc 21, 2) := by decide +kernel
theorem dJ3_compute_114 : decode cJ3_compute 114 = .ok (.iand, 1) := by decide +kernel
theorem dJ3_compute_115 : decode cJ3_compute 115 = .ok (.ifCond .ne 15, 3) := by decide +kernel
theorem dJ3_compute_118 : decode cJ3_compute 118 = .ok (.iload 10, 2) := by decide +kernel
theorem dJ3_compute_120 : decode cJ3_compute 120 = .ok (.iconst 1, 1) := by decide +kernel
theorem dJ3_compute_121 : decode cJ3_compute 121 = .ok (.ishl, 1) := by decide +kernel
theorem dJ3_compute_122 : decode cJ3_compute 122 = .ok (.istore 10, 2) := by decide +kernel
theorem dJ3_compute_124 : decode cJ3_compute 124 = .ok (.iinc 15 1, 3) := by decide +kernel
theorem dJ3_compute_127 : decode cJ3_compute 127 = .ok (.goto (-17), 3) := by decide +kernel
theorem dJ3_compute_130 : decode cJ3_compute 130 = .ok (.iload 13, 2) := by decide +kernel
theorem dJ3_compute_132 : decode cJ3_compute 132 = .ok (.iload 15, 2) := by decide +kernel
theorem dJ3_compute_134 : decode cJ3_compute 134 = .ok (.iconst 1, 1) := by decide +kernel
theorem dJ3_compute_135 : decode cJ3_compute 135 = .ok (.isub, 1) := by decide +kernel
theorem dJ3_compute_136 : decode cJ3_compute 136 = .ok (.isub, 1) := by decide +kernel
theorem dJ3_compute_137 : decode cJ3_compute 137 = .ok (.istore 13, 2) := by decide +kernel
theorem dJ3_compute_139 : decode cJ3_compute 139 = .ok (.iload 10, 2) := by decide +kernel
theorem dJ3_compute_141 : decode cJ3_compute 141 = .ok (.iload 8, 2) := by decide +kernel
theorem dJ3_compute_143 : decode cJ3_compute 143 = .ok (.bipush 32, 2) := by decide +kernel
theorem dJ3_compute_145 : decode cJ3_compute 145 = .ok (.iload 15, 2) := by decide +kernel
theorem dJ3_compute_147 : decode cJ3_compute 147 = .ok (.isub, 1) := by decide +kernel
theorem dJ3_compute_148 : decode cJ3_compute 148 = .ok (.iushr, 1) := by decide +kernel
theorem dJ3_compute_149 : decode cJ3_compute 149 = .ok (.ior, 1) := by decide +kernel
theorem dJ3_compute_150 : decode cJ3_compute 150 = .ok (.istore 10, 2) := by decide +kernel
theorem dJ3_compute_152 : decode cJ3_compute 152 = .ok (.iload 8, 2) := by decide +kernel
theorem dJ3_compute_154 : decode cJ3_compute 154 = .ok (.iload 15, 2) := by decide +kernel
theorem dJ3_compute_156 : decode cJ3_compute 156 = .ok (.ishl, 1) := by decide +kernel
theorem dJ3_compute_157 : decode cJ3_compute 157 = .ok (.istore 8, 2) := by decide +kernel
theorem dJ3_compute_159 : decode cJ3_compute 159 = .ok (.iinc 13 (-1023), 6) := by decide +kernel
theorem dJ3_compute_165 : decode cJ3_compute 165 = .ok (.iload 10, 2) := by decide +kernel
theorem dJ3_compute_167 : decode cJ3_compute 167 = .ok (.ldc 22, 2) := by decide +kernel
theorem dJ3_compute_169 : decode cJ3_compute 169 = .ok (.iand, 1) := by decide +kernel
theorem dJ3_compute_170 : decode cJ3_compute 170 = .ok (.ldc 21, 2) := by decide +kernel
theorem dJ3_compute_172 : decode cJ3_compute 172 = .ok (.ior, 1) := by decide +kernel
theorem dJ3_compute_173 : decode cJ3_compute 173 = .ok (.istore 10, 2) := by decide +kernel
theorem dJ3_compute_175 : decode cJ3_compute 175 = .ok (.iload 13, 2) := by decide +kernel
theorem dJ3_compute_177 : decode cJ3_compute 177 = .ok (.iconst 1, 1) := by decide +kernel
theorem dJ3_compute_178 : decode cJ3_compute 178 = .ok (.iand, 1) := by decide +kernel
theorem dJ3_compute_179 : decode cJ3_compute 179 = .ok (.ifCond .eq 26, 3) := by decide +kernel
theorem dJ3_compute_182 : decode cJ3_compute 182 = .ok (.iload 10, 2) := by decide +kernel
theorem dJ3_compute_184 : decode cJ3_compute 184 = .ok (.iload 10, 2) := by decide +kernel
theorem dJ3_compute_186 : decode cJ3_compute 186 = .ok (.iload 8, 2) := by decide +kernel
theorem dJ3_compute_188 : decode cJ3_compute 188 = .ok (.iload 4, 2) := by decide +kernel
theorem dJ3_compute_190 : decode cJ3_compute 190 = .ok (.iand, 1) := by decide +kernel
theorem dJ3_compute_191 : decode cJ3_compute 191 = .ok (.bipush 31, 2) := by decide +kernel
theorem dJ3_compute_193 : decode cJ3_compute 193 = .ok (.iushr, 1) := by decide +kernel
theorem dJ3_compute_194 : decode cJ3_compute 194 = .ok (.iadd, 1) := by decide +kernel
theorem dJ3_compute_195 : decode cJ3_compute 195 = .ok (.iadd, 1) := by decide +kernel
theorem dJ3_compute_196 : decode cJ3_compute 196 = .ok (.istore 10, 2) := by decide +kernel
theorem dJ3_compute_198 : decode cJ3_compute 198 = .ok (.iload 8, 2) := by decide +kernel
theorem dJ3_compute_200 : decode cJ3_compute 200 = .ok (.iload 8, 2) := by decide +kernel
theorem dJ3_compute_202 : decode cJ3_compute 202 = .ok (.iadd, 1) := by decide +kernel
theorem dJ3_compute_203 : decode cJ3_compute 203 = .ok (.istore 8, 2) := by decide +kernel
theorem dJ3_compute_205 : decode cJ3_compute 205 = .ok (.iload 13, 2) := by decide +kernel
theorem dJ3_compute_207 : decode cJ3_compute 207 = .ok (.iconst 1, 1) := by decide +kernel
theorem dJ3_compute_208 : decode cJ3_compute 208 = .ok (.ishr, 1) := by decide +kernel
theorem dJ3_compute_209 : decode cJ3_compute 209 = .ok (.istore 13, 2) := by decide +kernel
theorem dJ3_compute_211 : decode cJ3_compute 211 = .ok (.iload 10, 2) := by decide +kernel
theorem dJ3_compute_213 : decode cJ3_compute 213 = .ok (.iload 10, 2) := by decide +kernel
theorem dJ3_compute_215 : decode cJ3_compute 215 = .ok (.iload 8, 2) := by decide +kernel
theorem dJ3_compute_217 : decode cJ3_compute 217 = .ok (.iload 4, 2) := by decide +kernel
theorem dJ3_compute_219 : decode cJ3_compute 219 = .ok (.iand, 1) := by decide +kernel
theorem dJ3_compute_220 : decode cJ3_compute 220 = .ok (.bipush 31, 2) := by decide +kernel
theorem dJ3_compute_222 : decode cJ3_compute 222 = .ok (.iushr, 1) := by decide +kernel
theorem dJ3_compute_223 : decode cJ3_compute 223 = .ok (.iadd, 1) := by decide +kernel
theorem dJ3_compute_224 : decode cJ3_compute 224 = .ok (.iadd, 1) := by decide +kernel
theorem dJ3_compute_225 : decode cJ3_compute 225 = .ok (.istore 10, 2) := by decide +kernel
theorem dJ3_compute_227 : decode cJ3_compute 227 = .ok (.iload 8, 2) := by decide +kernel
theorem dJ3_compute_229 : decode cJ3_compute 229 = .ok (.iload 8, 2) := by decide +kernel
theorem dJ3_compute_231 : decode cJ3_compute 231 = .ok (.iadd, 1) := by decide +kernel
theorem dJ3_compute_232 : decode cJ3_compute 232 = .ok (.istore 8, 2) := by decide +kernel
theorem dJ3_compute_234 : decode cJ3_compute 234 = .ok (.iconst 0, 1) := by decide +kernel
theorem dJ3_compute_235 : decode cJ3_compute 235 = .ok (.dup, 1) := by decide +kernel
theorem dJ3_compute_236 : decode cJ3_compute 236 = .ok (.istore 7, 2) := by decide +kernel
theorem dJ3_compute_238 : decode cJ3_compute 238 = .ok (.dup, 1) := by decide +kernel
theorem dJ3_compute_239 : decode cJ3_compute 239 = .ok (.istore 11, 2) := by decide +kernel
theorem dJ3_compute_241 : decode cJ3_compute 241 = .ok (.dup, 1) := by decide +kernel
theorem dJ3_compute_242 : decode cJ3_compute 242 = .ok (.istore 9, 2) := by decide +kernel
theorem dJ3_compute_244 : decode cJ3_compute 244 = .ok (.istore 12, 2) := by decide +kernel
theorem dJ3_compute_246 : decode cJ3_compute 246 = .ok (.ldc 23, 2) := by decide +kernel
theorem dJ3_compute_248 : decode cJ3_compute 248 = .ok (.istore 5, 2) := by decide +kernel
theorem dJ3_compute_250 : decode cJ3_compute 250 = .ok (.iload 5, 2) := by decide +kernel
theorem dJ3_compute_252 : decode cJ3_compute 252 = .ok (.ifCond .eq 70, 3) := by decide +kernel
theorem dJ3_compute_255 : decode cJ3_compute 255 = .ok (.iload 11, 2) := by decide +kernel
theorem dJ3_compute_257 : decode cJ3_compute 257 = .ok (.iload 5, 2) := by decide +kernel
theorem dJ3_compute_259 : decode cJ3_compute 259 = .ok (.iadd, 1) := by decide +kernel
theorem dJ3_compute_260 : decode cJ3_compute 260 = .ok (.istore 14, 2) := by decide +kernel
theorem dJ3_compute_262 : decode cJ3_compute 262 = .ok (.iload 14, 2) := by decide +kernel
theorem dJ3_compute_264 : decode cJ3_compute 264 = .ok (.iload 10, 2) := by decide +kernel
theorem dJ3_compute_266 : decode cJ3_compute 266 = .ok (.if_icmp .gt 24, 3) := by decide +kernel
theorem dJ3_compute_269 : decode cJ3_compute 269 = .ok (.iload 14, 2) := by decide +kernel
theorem dJ3_compute_271 : decode cJ3_compute 271 = .ok (.iload 5, 2) := by decide +kernel
theorem dJ3_compute_273 : decode cJ3_compute 273 = .ok (.iadd, 1) := by decide +kernel
theorem dJ3_compute_274 : decode cJ3_compute 274 = .ok (.istore 11, 2) := by decide +kernel
theorem dJ3_compute_276 : decode cJ3_compute 276 = .ok (.iload 10, 2) := by decide +kernel
theorem dJ3_compute_278 : decode cJ3_compute 278 = .ok (.iload 14, 2) := by decide +kernel
theorem dJ3_compute_280 : decode cJ3_compute 280 = .ok (.isub, 1) := by decide +kernel
theorem dJ3_compute_281 : decode cJ3_compute 281 = .ok (.istore 10, 2) := by decide +kernel
theorem dJ3_compute_283 : decode cJ3_compute 283 = .ok (.iload 12, 2) := by decide +kernel
theorem dJ3_compute_285 : decode cJ3_compute 285 = .ok (.iload 5, 2) := by decide +kernel
theorem dJ3_compute_287 : decode cJ3_compute 287 = .ok (.iadd, 1) := by decide +kernel
theorem dJ3_compute_288 : decode cJ3_compute 288 = .ok (.istore 12, 2) := by decide +kernel
theorem dJ3_compute_290 : decode cJ3_compute 290 = .ok (.iload 10, 2) := by decide +kernel
theorem dJ3_compute_292 : decode cJ3_compute 292 = .ok (.iload 10, 2) := by decide +kernel
theorem dJ3_compute_294 : decode cJ3_compute 294 = .ok (.iload 8, 2) := by decide +kernel
theorem dJ3_compute_296 : decode cJ3_compute 296 = .ok (.iload 4, 2) := by decide +kernel
theorem dJ3_compute_298 : decode cJ3_compute 298 = .ok (.iand, 1) := by decide +kernel
theorem dJ3_compute_299 : decode cJ3_compute 299 = .ok (.bipush 31, 2) := by decide +kernel
theorem dJ3_compute_301 : decode cJ3_compute 301 = .ok (.iushr, 1) := by decide +kernel
theorem dJ3_compute_302 : decode cJ3_compute 302 = .ok (.iadd, 1) := by decide +kernel
theorem dJ3_compute_303 : decode cJ3_compute 303 = .ok (.iadd, 1) := by decide +kernel
theorem dJ3_compute_304 : decode cJ3_compute 304 = .ok (.istore 10, 2) := by decide +kernel
theorem dJ3_compute_306 : decode cJ3_compute 306 = .ok (.iload 8, 2) := by decide +kernel
theorem dJ3_compute_308 : decode cJ3_compute 308 = .ok (.iload 8, 2) := by decide +kernel
theorem dJ3_compute_310 : decode cJ3_compute 310 = .ok (.iadd, 1) := by decide +kernel
theorem dJ3_compute_311 : decode cJ3_compute 311 = .ok (.istore 8, 2) := by decide +kernel
theorem dJ3_compute_313 : decode cJ3_compute 313 = .ok (.iload 5, 2) := by decide +kernel
theorem dJ3_compute_315 : decode cJ3_compute 315 = .ok (.iconst 1, 1) := by decide +kernel
theorem dJ3_compute_316 : decode cJ3_compute 316 = .ok (.iushr, 1) := by decide +kernel
theorem dJ3_compute_317 : decode cJ3_compute 317 = .ok (.istore 5, 2) := by decide +kernel
theorem dJ3_compute_319 : decode cJ3_compute 319 = .ok (.goto (-69), 3) := by decide +kernel
theorem dJ3_compute_322 : decode cJ3_compute 322 = .ok (.iload 4, 2) := by decide +kernel
theorem dJ3_compute_324 : decode cJ3_compute 324 = .ok (.istore 5, 2) := by decide +kernel
theorem dJ3_compute_326 : decode cJ3_compute 326 = .ok (.iload 5, 2) := by decide +kernel
theorem dJ3_compute_328 : decode cJ3_compute 328 = .ok (.ifCond .eq 132, 3) := by decide +kernel
theorem dJ3_compute_331 : decode cJ3_compute 331 = .ok (.iload 7, 2) := by decide +kernel
theorem dJ3_compute_333 : decode cJ3_compute 333 = .ok (.iload 5, 2) := by decide +kernel
theorem dJ3_compute_335 : decode cJ3_compute 335 = .ok (.iadd, 1) := by decide +kernel
theorem dJ3_compute_336 : decode cJ3_compute 336 = .ok (.istore 6, 2) := by decide +kernel
theorem dJ3_compute_338 : decode cJ3_compute 338 = .ok (.iload 11, 2) := by decide +kernel
theorem dJ3_compute_340 : decode cJ3_compute 340 = .ok (.istore 14, 2) := by decide +kernel
theorem dJ3_compute_342 : decode cJ3_compute 342 = .ok (.iload 14, 2) := by decide +kernel
theorem dJ3_compute_344 : decode cJ3_compute 344 = .ok (.iload 10, 2) := by decide +kernel
theorem dJ3_compute_346 : decode cJ3_compute 346 = .ok (.if_icmp .lt 20, 3) := by decide +kernel
theorem dJ3_compute_349 : decode cJ3_compute 349 = .ok (.iload 14, 2) := by decide +kernel
theorem dJ3_compute_351 : decode cJ3_compute 351 = .ok (.iload 10, 2) := by decide +kernel
theorem dJ3_compute_353 : decode cJ3_compute 353 = .ok (.if_icmp .ne 75, 3) := by decide +kernel
theorem dJ3_compute_356 : decode cJ3_compute 356 = .ok (.iload 6, 2) := by decide +kernel
theorem dJ3_compute_358 : decode cJ3_compute 358 = .ok (.iload 8, 2) := by decide +kernel
theorem dJ3_compute_360 : decode cJ3_compute 360 = .ok (.invokestatic 24, 3) := by decide +kernel
theorem dJ3_compute_363 : decode cJ3_compute 363 = .ok (.ifCond .gt 65, 3) := by decide +kernel
theorem dJ3_compute_366 : decode cJ3_compute 366 = .ok (.iload 6, 2) := by decide +kernel
theorem dJ3_compute_368 : decode cJ3_compute 368 = .ok (.iload 5, 2) := by decide +kernel
theorem dJ3_compute_370 : decode cJ3_compute 370 = .ok (.iadd, 1) := by decide +kernel
theorem dJ3_compute_371 : decode cJ3_compute 371 = .ok (.istore 7, 2) := by decide +kernel
theorem dJ3_compute_373 : decode cJ3_compute 373 = .ok (.iload 6, 2) := by decide +kernel
theorem dJ3_compute_375 : decode cJ3_compute 375 = .ok (.iload 4, 2) := by decide +kernel
theorem dJ3_compute_377 : decode cJ3_compute 377 = .ok (.iand, 1) := by decide +kernel
theorem dJ3_compute_378 : decode cJ3_compute 378 = .ok (.iload 4, 2) := by decide +kernel
theorem dJ3_compute_380 : decode cJ3_compute 380 = .ok (.if_icmp .ne 14, 3) := by decide +kernel
theorem dJ3_compute_383 : decode cJ3_compute 383 = .ok (.iload 7, 2) := by decide +kernel
theorem dJ3_compute_385 : decode cJ3_compute 385 = .ok (.iload 4, 2) := by decide +kernel
theorem dJ3_compute_387 : decode cJ3_compute 387 = .ok (.iand, 1) := by decide +kernel
theorem dJ3_compute_388 : decode cJ3_compute 388 = .ok (.ifCond .ne 6, 3) := by decide +kernel
theorem dJ3_compute_391 : decode cJ3_compute 391 = .ok (.iinc 11 1, 3) := by decide +kernel
theorem dJ3_compute_394 : decode cJ3_compute 394 = .ok (.iload 10, 2) := by decide +kernel
theorem dJ3_compute_396 : decode cJ3_compute 396 = .ok (.iload 14, 2) := by decide +kernel
theorem dJ3_compute_398 : decode cJ3_compute 398 = .ok (.isub, 1) := by decide +kernel
theorem dJ3_compute_399 : decode cJ3_compute 399 = .ok (.istore 10, 2) := by decide +kernel
theorem dJ3_compute_401 : decode cJ3_compute 401 = .ok (.iload 8, 2) := by decide +kernel
theorem dJ3_compute_403 : decode cJ3_compute 403 = .ok (.iload 6, 2) := by decide +kernel
theorem dJ3_compute_405 : decode cJ3_compute 405 = .ok (.invokestatic 24, 3) := by decide +kernel
theorem dJ3_compute_408 : decode cJ3_compute 408 = .ok (.ifCond .ge 6, 3) := by decide +kernel
theorem dJ3_compute_411 : decode cJ3_compute 411 = .ok (.iinc 10 (-1), 3) := by decide +kernel
theorem dJ3_compute_414 : decode cJ3_compute 414 = .ok (.iload 8, 2) := by decide +kernel
theorem dJ3_compute_416 : decode cJ3_compute 416 = .ok (.iload 6, 2) := by decide +kernel
theorem dJ3_compute_418 : decode cJ3_compute 418 = .ok (.isub, 1) := by decide +kernel
theorem dJ3_compute_419 : decode cJ3_compute 419 = .ok (.istore 8, 2) := by decide +kernel
theorem dJ3_compute_421 : decode cJ3_compute 421 = .ok (.iload 9, 2) := by decide +kernel
theorem dJ3_compute_423 : decode cJ3_compute 423 = .ok (.iload 5, 2) := by decide +kernel
theorem dJ3_compute_425 : decode cJ3_compute 425 = .ok (.iadd, 1) := by decide +kernel
theorem dJ3_compute_426 : decode cJ3_compute 426 = .ok (.istore 9, 2) := by decide +kernel
theorem dJ3_compute_428 : decode cJ3_compute 428 = .ok (.iload 10, 2) := by decide +kernel
theorem dJ3_compute_430 : decode cJ3_compute 430 = .ok (.iload 10, 2) := by decide +kernel
theorem dJ3_compute_432 : decode cJ3_compute 432 = .ok (.iload 8, 2) := by decide +kernel
theorem dJ3_compute_434 : decode cJ3_compute 434 = .ok (.iload 4, 2) := by decide +kernel
theorem dJ3_compute_436 : decode cJ3_compute 436 = .ok (.iand, 1) := by decide +kernel
theorem dJ3_compute_437 : decode cJ3_compute 437 = .ok (.bipush 31, 2) := by decide +kernel
theorem dJ3_compute_439 : decode cJ3_compute 439 = .ok (.iushr, 1) := by decide +kernel
theorem dJ3_compute_440 : decode cJ3_compute 440 = .ok (.iadd, 1) := by decide +kernel
theorem dJ3_compute_441 : decode cJ3_compute 441 = .ok (.iadd, 1) := by decide +kernel
theorem dJ3_compute_442 : decode cJ3_compute 442 = .ok (.istore 10, 2) := by decide +kernel
theorem dJ3_compute_444 : decode cJ3_compute 444 = .ok (.iload 8, 2) := by decide +kernel
theorem dJ3_compute_446 : decode cJ3_compute 446 = .ok (.iload 8, 2) := by decide +kernel
theorem dJ3_compute_448 : decode cJ3_compute 448 = .ok (.iadd, 1) := by decide +kernel
theorem dJ3_compute_449 : decode cJ3_compute 449 = .ok (.istore 8, 2) := by decide +kernel
theorem dJ3_compute_451 : decode cJ3_compute 451 = .ok (.iload 5, 2) := by decide +kernel
theorem dJ3_compute_453 : decode cJ3_compute 453 = .ok (.iconst 1, 1) := by decide +kernel
theorem dJ3_compute_454 : decode cJ3_compute 454 = .ok (.iushr, 1) := by decide +kernel
theorem dJ3_compute_455 : decode cJ3_compute 455 = .ok (.istore 5, 2) := by decide +kernel
theorem dJ3_compute_457 : decode cJ3_compute 457 = .ok (.goto (-131), 3) := by decide +kernel
theorem dJ3_compute_460 : decode cJ3_compute 460 = .ok (.iload 10, 2) := by decide +kernel
theorem dJ3_compute_462 : decode cJ3_compute 462 = .ok (.iload 8, 2) := by decide +kernel
theorem dJ3_compute_464 : decode cJ3_compute 464 = .ok (.ior, 1) := by decide +kernel
theorem dJ3_compute_465 : decode cJ3_compute 465 = .ok (.ifCond .eq 59, 3) := by decide +kernel
theorem dJ3_compute_468 : decode cJ3_compute 468 = .ok (.dconst 1, 1) := by decide +kernel
theorem dJ3_compute_469 : decode cJ3_compute 469 = .ok (.dstore_n 2, 1) := by decide +kernel
theorem dJ3_compute_470 : decode cJ3_compute 470 = .ok (.dload_n 2, 1) := by decide +kernel
theorem dJ3_compute_471 : decode cJ3_compute 471 = .ok (.dconst 1, 1) := by decide +kernel
theorem dJ3_compute_472 : decode cJ3_compute 472 = .ok (.dcmp .l, 1) := by decide +kernel
theorem dJ3_compute_473 : decode cJ3_compute 473 = .ok (.ifCond .lt 51, 3) := by decide +kernel
theorem dJ3_compute_476 : decode cJ3_compute 476 = .ok (.dconst 1, 1) := by decide +kernel
theorem dJ3_compute_477 : decode cJ3_compute 477 = .ok (.dstore_n 2, 1) := by decide +kernel
theorem dJ3_compute_478 : decode cJ3_compute 478 = .ok (.iload 9, 2) := by decide +kernel
theorem dJ3_compute_480 : decode cJ3_compute 480 = .ok (.iconst (-1), 1) := by decide +kernel
theorem dJ3_compute_481 : decode cJ3_compute 481 = .ok (.if_icmp .ne 12, 3) := by decide +kernel
theorem dJ3_compute_484 : decode cJ3_compute 484 = .ok (.iconst 0, 1) := by decide +kernel
theorem dJ3_compute_485 : decode cJ3_compute 485 = .ok (.istore 9, 2) := by decide +kernel
theorem dJ3_compute_487 : decode cJ3_compute 487 = .ok (.iinc 12 1, 3) := by decide +kernel
theorem dJ3_compute_490 : decode cJ3_compute 490 = .ok (.goto 34, 3) := by decide +kernel
theorem dJ3_compute_493 : decode cJ3_compute 493 = .ok (.dload_n 2, 1) := by decide +kernel
theorem dJ3_compute_494 : decode cJ3_compute 494 = .ok (.dconst 1, 1) := by decide +kernel
theorem dJ3_compute_495 : decode cJ3_compute 495 = .ok (.dcmp .l, 1) := by decide +kernel
theorem dJ3_compute_496 : decode cJ3_compute 496 = .ok (.ifCond .le 19, 3) := by decide +kernel
theorem dJ3_compute_515 : decode cJ3_compute 515 = .ok (.iload 9, 2) := by decide +kernel
theorem dJ3_compute_517 : decode cJ3_compute 517 = .ok (.iload 9, 2) := by decide +kernel
theorem dJ3_compute_519 : decode cJ3_compute 519 = .ok (.iconst 1, 1) := by decide +kernel
theorem dJ3_compute_520 : decode cJ3_compute 520 = .ok (.iand, 1) := by decide +kernel
theorem dJ3_compute_521 : decode cJ3_compute 521 = .ok (.iadd, 1) := by decide +kernel
theorem dJ3_compute_522 : decode cJ3_compute 522 = .ok (.istore 9, 2) := by decide +kernel
theorem dJ3_compute_524 : decode cJ3_compute 524 = .ok (.iload 12, 2) := by decide +kernel
theorem dJ3_compute_526 : decode cJ3_compute 526 = .ok (.iconst 1, 1) := by decide +kernel
theorem dJ3_compute_527 : decode cJ3_compute 527 = .ok (.ishr, 1) := by decide +kernel
theorem dJ3_compute_528 : decode cJ3_compute 528 = .ok (.ldc 32, 2) := by decide +kernel
theorem dJ3_compute_530 : decode cJ3_compute 530 = .ok (.iadd, 1) := by decide +kernel
theorem dJ3_compute_531 : decode cJ3_compute 531 = .ok (.istore 10, 2) := by decide +kernel
theorem dJ3_compute_533 : decode cJ3_compute 533 = .ok (.iload 9, 2) := by decide +kernel
theorem dJ3_compute_535 : decode cJ3_compute 535 = .ok (.iconst 1, 1) := by decide +kernel
theorem dJ3_compute_536 : decode cJ3_compute 536 = .ok (.iushr, 1) := by decide +kernel
theorem dJ3_compute_537 : decode cJ3_compute 537 = .ok (.istore 8, 2) := by decide +kernel
theorem dJ3_compute_539 : decode cJ3_compute 539 = .ok (.iload 12, 2) := by decide +kernel
theorem dJ3_compute_541 : decode cJ3_compute 541 = .ok (.iconst 1, 1) := by decide +kernel
theorem dJ3_compute_542 : decode cJ3_compute 542 = .ok (.iand, 1) := by decide +kernel
theorem dJ3_compute_543 : decode cJ3_compute 543 = .ok (.iconst 1, 1) := by decide +kernel
theorem dJ3_compute_544 : decode cJ3_compute 544 = .ok (.if_icmp .ne 10, 3) := by decide +kernel
theorem dJ3_compute_547 : decode cJ3_compute 547 = .ok (.iload 8, 2) := by decide +kernel
theorem dJ3_compute_549 : decode cJ3_compute 549 = .ok (.iload 4, 2) := by decide +kernel
theorem dJ3_compute_551 : decode cJ3_compute 551 = .ok (.ior, 1) := by decide +kernel
theorem dJ3_compute_552 : decode cJ3_compute 552 = .ok (.istore 8, 2) := by decide +kernel
theorem dJ3_compute_554 : decode cJ3_compute 554 = .ok (.iload 10, 2) := by decide +kernel
theorem dJ3_compute_556 : decode cJ3_compute 556 = .ok (.iload 13, 2) := by decide +kernel
theorem dJ3_compute_558 : decode cJ3_compute 558 = .ok (.bipush 20, 2) := by decide +kernel
theorem dJ3_compute_560 : decode cJ3_compute 560 = .ok (.ishl, 1) := by decide +kernel
theorem dJ3_compute_561 : decode cJ3_compute 561 = .ok (.iadd, 1) := by decide +kernel
theorem dJ3_compute_562 : decode cJ3_compute 562 = .ok (.istore 10, 2) := by decide +kernel
theorem dJ3_compute_564 : decode cJ3_compute 564 = .ok (.iload 10, 2) := by decide +kernel
theorem dJ3_compute_566 : decode cJ3_compute 566 = .ok (.iload 8, 2) := by decide +kernel
theorem dJ3_compute_568 : decode cJ3_compute 568 = .ok (.invokestatic 33, 3) := by decide +kernel
theorem dJ3_compute_571 : decode cJ3_compute 571 = .ok (.dreturn, 1) := by decide +kernel
theorem dJ2_sqrt_0 : decode cJ2_sqrt 0 = .ok (.dload_n 0, 1) := by decide +kernel
theorem dJ2_sqrt_1 : decode cJ2_sqrt 1 = .ok (.invokestatic 47, 3) := by decide +kernel
theorem dJ2_sqrt_4 : decode cJ2_sqrt 4 = .ok (.dreturn, 1) := by decide +kernel
theorem dJ1_sqrt_0 : decode cJ1_sqrt 0 = .ok (.dload_n 0, 1) := by decide +kernel
theorem dJ1_sqrt_1 : decode cJ1_sqrt 1 = .ok (.invokestatic 43, 3) := by decide +kernel
theorem dJ1_sqrt_4 : decode cJ1_sqrt 4 = .ok (.dreturn, 1) := by decide +kernel
theorem hd_J2_sqrt : yJ2_sqrt.cls ≠ "java/lang/invoke/MethodHandle" ∧ yJ2_sqrt.cls ≠ "java/lang/invoke/VarHandle" ∧ (parseMethodDescriptor yJ2_sqrt.desc).map (fun d => d.parameters.length) = some 1 := by decide +kernel
theorem hd_J3_compute : yJ3_compute.cls ≠ "java/lang/invoke/MethodHandle" ∧ yJ3_compute.cls ≠ "java/lang/invoke/VarHandle" ∧ (parseMethodDescriptor yJ3_compute.desc).map (fun d => d.parameters.length) = some 1 := by decide +kernel
theorem hd_J4___HI : yJ4___HI.cls ≠ "java/lang/invoke/MethodHandle" ∧ yJ4___HI.cls ≠ "java/lang/invoke/VarHandle" ∧ (parseMethodDescriptor yJ4___HI.desc).map (fun d => d.parameters.length) = some 1 := by decide +kernel
theorem hd_J4___HI_LO : yJ4___HI_LO.cls ≠ "java/lang/invoke/MethodHandle" ∧ yJ4___HI_LO.cls ≠ "java/lang/invoke/VarHandle" ∧ (parseMethodDescriptor yJ4___HI_LO.desc).map (fun d => d.parameters.length) = some 2 := by decide +kernel
theorem hd_J4___LO : yJ4___LO.cls ≠ "java/lang/invoke/MethodHandle" ∧ yJ4___LO.cls ≠ "java/lang/invoke/VarHandle" ∧ (parseMethodDescriptor yJ4___LO.desc).map (fun d => d.parameters.length) = some 1 := by decide +kernel
theorem hd_J5_compare : yJ5_compare.cls ≠ "java/lang/invoke/MethodHandle" ∧ yJ5_compare.cls ≠ "java/lang/invoke/VarHandle" ∧ (parseMethodDescriptor yJ5_compare.desc).map (fun d => d.parameters.length) = some 2 := by decide +kernel
theorem hd_J5_compareUnsigned : yJ5_compareUnsigned.cls ≠ "java/lang/invoke/MethodHandle" ∧ yJ5_compareUnsigned.cls ≠ "java/lang/invoke/VarHandle" ∧ (parseMethodDescriptor yJ5_compareUnsigned.desc).map (fun d => d.parameters.length) = some 2 := by decide +kernel
def nst (U : State) : Prop := va_Nw (.methodLinkNest "java/lang/FdLibm$Sqrt" 13 yJ4___HI "java/lang/FdLibm") U ∧ va_Nw (.methodLinkNest "java/lang/FdLibm$Sqrt" 17 yJ4___LO "java/lang/FdLibm") U ∧ va_Nw (.methodLinkNest "java/lang/FdLibm$Sqrt" 33 yJ4___HI_LO "java/lang/FdLibm") U
theorem nst_warm {s U : State} (hW : s.WarmedH U.vm) (h : nst s) : nst U := ⟨va_Nw.warmM hW h.1, va_Nw.warmM hW h.2.1, va_Nw.warmM hW h.2.2⟩
theorem nst_same {s U : State} (hv : s.vm = U.vm) (h : nst s) : nst U := ⟨va_Nw.same rfl hv h.1, va_Nw.same rfl hv h.2.1, va_Nw.same rfl hv h.2.2⟩
section TH5_
variable {p : Program} {l : Launch} {e : Env} {R : Room} {s : State} {m : MethodId} {args : Array Value} {below : List Frame} {meth : Method} {c : Code} {H : Heap} {locs : List Loc} {cells slots : Nat} {Q : State → Prop}
variable {cc : ByteArray} {pc nL : Nat} {ls : Array Slot} {rest st0 : List Value} {own : String}
/-- a static method that reads and writes nothing, but takes the nest's links -/
def sT (l : Launch) (y : MethodName) (b : ByteArray) (L : Nat) (r : Option FieldType) (h : Nat) (As : List Value) (o : Option Value) : Prop :=
  Met l y (ws_ y b L r) (rm_ h) (va_Pc As nst) (fun _ st oc t => oc = .returned o ∧ t.heap = st.heap) 0 0 (fun _ => False)
theorem tts_start {y : MethodName} {n h : Nat} {ret : Option FieldType} {As : List Value} {o : Option Value} (hy : plainFor y = true) (hc : y.cls = own) (hle : (lg_sl As).length ≤ n)
    (body : ∀ (p : Program) (e : Env) (s : State) (m : MethodId) (below : List Frame) (meth : Method) (c : Code) (ls : Array Slot), CallFix p m c cc n s As.toArray lw_all own → meth.sig.returnType = ret → meth.locks = false → nst s → lv_has ls n (lv_args 0 As) → W p l e (rm_ h) s m As.toArray below meth c s.heap [] 0 0 (MQ below (sQ o) As.toArray s 0 0 (fun _ => False)) (F0 m 0 ls [])) : sT l y cc n ret h As o := by
  refine va_MetF (cc := cc) (maxL := n) (ret := ret) hy rfl ?_
  intro p e s m args below meth c s₁ B hml hv
  obtain ⟨rfl, hn⟩ := hv
  have hts := atoms_spec (ws := ws_ y cc n ret) B.pre
  have hts : ∀ w ∈ lw_all, w.before _ s = true := fun w h => hts w (List.mem_cons_of_mem _ h)
  have hown : s.vm.findClass own = some m.cls := by rw [← hc]; exact findClass_of_methodNamed B.named
  have hl := lv_entry As (n := n) hle
  rw [lg_entry_eq]
  exact body p e s m below meth c _ ⟨B.exec, B.bytes, hml, hown, hts⟩ B.returns B.notSynchronized hn hl
theorem tts_blind {As : List Value} : FrameBlind (va_Pc As nst) := fun a U g mk q => ⟨q.1, nst_same rfl q.2⟩
theorem sT_call {y : MethodName} {b : ByteArray} {L n index h : Nat} {r : Option FieldType} {As : List Value} {o : Option Value} (S : CallFix p m c cc nL s args lw_all own) (hns : nst s) (hM : sT l y b L r h As o) (q1 : Cond.methodLink own index y ∈ lw_all) (q2 : Cond.static y ∈ lw_all) (q3 : Cond.initialized y.cls ∈ lw_all) (q4 : Cond.code y b L r ∈ lw_all)
    (hd : y.cls ≠ "java/lang/invoke/MethodHandle" ∧ y.cls ≠ "java/lang/invoke/VarHandle" ∧ (parseMethodDescriptor y.desc).map (fun d => d.parameters.length) = some n) (hR : h + 1 ≤ R.frames ∧ 8 + (L + 11) + 48 * h ≤ R.locals) (hn : As.length = n) (hsz : ls.size = nL) (hst : st0 = As.reverse ++ rest) (hW : (rest.map fun v => v.category).sum ≤ 8) (hdg : decode cc pc = .ok (.invokestatic index, 3)) (hf : cells ≤ R.cells ∧ slots ≤ R.slots)
    (kk : W p l e R s m args below meth c H locs cells slots Q (F0 m (pc + 3) ls (o.toList ++ rest))) : W p l e R s m args below meth c H locs cells slots Q (F0 m pc ls st0) := by
  have hr := va_runS (As := As) (rest := rest) (g := F0 m pc ls st0) (locs := locs) (cells := cells) (slots := slots) (H := H) (below := below) (meth := meth) (e := e) S hM (va_cwS (R := R) n S.2.2.2.2 (lw_S q1 q2 q3 q4) rfl rfl rfl hd hR) ⟨tts_blind, fun U hU hW => ⟨rfl, nst_warm hW hns⟩⟩ rfl hn hsz hst (lv_room hW) hdg hf
  intro T hT X
  obtain ⟨v, st₀, t, T', L', h0, X', hL, e1, e2, ⟨hv, hh⟩, st⟩ := hr T hT X
  cases hv
  obtain ⟨t2, a1, b1⟩ := kk T' (by rw [e1, hh, h0]) (Stand.forget X' (fun q h => (hL q h).elim))
  exact ⟨t2, st t2 a1, b1⟩
theorem sN_call {y : MethodName} {b : ByteArray} {L n index h : Nat} {r : Option FieldType} {host : String} {As : List Value} {o : Option Value} (S : CallFix p m c cc nL s args lw_all own) (hM : sC l y b L r h As o) (q1 : va_Nw (.methodLinkNest own index y host) s) (q2 : Cond.static y ∈ lw_all) (q3 : Cond.initialized y.cls ∈ lw_all) (q4 : Cond.code y b L r ∈ lw_all)
    (hd : y.cls ≠ "java/lang/invoke/MethodHandle" ∧ y.cls ≠ "java/lang/invoke/VarHandle" ∧ (parseMethodDescriptor y.desc).map (fun d => d.parameters.length) = some n) (hR : h + 1 ≤ R.frames ∧ 8 + (L + 11) + 48 * h ≤ R.locals) (hn : As.length = n) (hsz : ls.size = nL) (hst : st0 = As.reverse ++ rest) (hW : (rest.map fun v => v.category).sum ≤ 8) (hdg : decode cc pc = .ok (.invokestatic index, 3)) (hf : cells ≤ R.cells ∧ slots ≤ R.slots)
    (kk : W p l e R s m args below meth c H locs cells slots Q (F0 m (pc + 3) ls (o.toList ++ rest))) : W p l e R s m args below meth c H locs cells slots Q (F0 m pc ls st0) := by
  have hts := S.2.2.2.2
  have hr := va_runSN (As := As) (rest := rest) (g := F0 m pc ls st0) (locs := locs) (cells := cells) (slots := slots) (H := H) (below := below) (meth := meth) (e := e) S hM ⟨va_cnB (R := R) n hts (lw_meth q4) rfl rfl rfl q1 (hts _ q3) hd hR, hts _ q2, trivial⟩ ⟨fun _ _ _ _ q => q, fun _ _ _ => rfl⟩ rfl hn hsz hst (lv_room hW) hdg hf
  intro T hT X
  obtain ⟨v, st₀, t, T', L', h0, X', hL, e1, e2, ⟨hv, hh⟩, st⟩ := hr T hT X
  cases hv
  obtain ⟨t2, a1, b1⟩ := kk T' (by rw [e1, hh, h0]) (Stand.forget X' (fun q h => (hL q h).elim))
  exact ⟨t2, st t2 a1, b1⟩
end TH5_
def hiI (x : UInt64) : Int32 := (x.toInt64 >>> ((nI 32).toInt64 &&& 63)).toInt32
def loI (x : UInt64) : Int32 := x.toInt64.toInt32
def hlL (a b : Int32) : Int64 := (a.toInt64 <<< ((nI 32).toInt64 &&& 63)) ||| (b.toInt64 &&& 4294967295)
def cuI (a b : Int32) : Int32 := cmI (a + (-2147483648)) (b + (-2147483648))
theorem hi_n {x : UInt64} (h : x.toNat < 2 ^ 63) : hiI x = nI (x.toNat / 2 ^ 32) := by unfold hiI; rw [lN_u, lN_shr h (by decide), lN_i]
theorem lo_n (x : UInt64) : loI x = nI (x.toNat % 2 ^ 32) := by unfold loI; rw [lN_u, lN_i]; exact nI_w (by omega)
theorem sx_lo {L : Nat} (hL : L < 2 ^ 32) : (nI L).toInt64 &&& 4294967295 = lN L := by
  apply Int64.toBitVec_inj.mp
  show BitVec.signExtend 64 (nI L).toBitVec &&& (4294967295 : Int64).toBitVec = (lN L).toBitVec
  rw [nI_bv, lN_bv]
  apply BitVec.eq_of_toNat_eq
  rw [BitVec.toNat_and, BitVec.toNat_signExtend]
  show ((BitVec.setWidth 64 (BitVec.ofNat 32 L)).toNat + _) &&& (2 ^ 32 - 1) = _
  rw [and_m]
  have e1 : (BitVec.setWidth 64 (BitVec.ofNat 32 L)).toNat = L := by simp; omega
  have e2 : (BitVec.ofNat 64 L).toNat = L := by simp; omega
  rw [e1, e2]
  split <;> omega
theorem hl_n {H L : Nat} (hH : H < 2 ^ 31) (hL : L < 2 ^ 32) : hlL (nI H) (nI L) = lN (H * 2 ^ 32 + L) := by
  unfold hlL
  rw [sx_lo hL, nI_lN hH, lN_shl (by decide), lN_or, or_add hL]
theorem nI_min {w : Nat} (h : w < 2 ^ 32) : (nI w + (-2147483648)).toInt = (w : Int) - 2147483648 := by
  have e : nI w + (-2147483648) = Int32.ofInt ((w : Int) - 2147483648) := by
    rw [iZ_nI, show (-2147483648 : Int32) = Int32.ofInt (-2147483648) from rfl, iZ_add]; rfl
  rw [e]; exact iZ_toInt (by omega) (by omega)
theorem cu_gt {a b : Nat} (ha : a < 2 ^ 32) (hb : b < 2 ^ 32) : (0 < cuI (nI a) (nI b)) ↔ b < a := by
  unfold cuI cmI
  have e1 : (nI b + (-2147483648) ≤ nI a + (-2147483648)) ↔ b ≤ a := by rw [Int32.le_iff_toInt_le, nI_min ha, nI_min hb]; omega
  have e2 : (nI a + (-2147483648) = nI b + (-2147483648)) ↔ a = b := by rw [← Int32.toInt_inj, nI_min ha, nI_min hb]; omega
  by_cases c : b ≤ a
  · rw [if_pos (e1.mpr c)]
    by_cases d : a = b
    · rw [if_pos (e2.mpr d)]; exact ⟨fun h => absurd h (by decide), fun h => by omega⟩
    · rw [if_neg (fun h => d (e2.mp h))]; exact ⟨fun _ => by omega, fun _ => by decide⟩
  · rw [if_neg (fun h => c (e1.mp h))]; exact ⟨fun h => absurd h (by decide), fun h => by omega⟩
theorem cu_lt {a b : Nat} (ha : a < 2 ^ 32) (hb : b < 2 ^ 32) : (cuI (nI a) (nI b) < 0) ↔ a < b := by
  unfold cuI cmI
  have e1 : (nI b + (-2147483648) ≤ nI a + (-2147483648)) ↔ b ≤ a := by rw [Int32.le_iff_toInt_le, nI_min ha, nI_min hb]; omega
  have e2 : (nI a + (-2147483648) = nI b + (-2147483648)) ↔ a = b := by rw [← Int32.toInt_inj, nI_min ha, nI_min hb]; omega
  by_cases c : b ≤ a
  · rw [if_pos (e1.mpr c)]
    by_cases d : a = b
    · rw [if_pos (e2.mpr d)]; exact ⟨fun h => absurd h (by decide), fun h => by omega⟩
    · rw [if_neg (fun h => d (e2.mp h))]; exact ⟨fun h => absurd h (by decide), fun h => by omega⟩
  · rw [if_neg (fun h => c (e1.mp h))]; exact ⟨fun _ => by omega, fun _ => by decide⟩
theorem nI_eqw {a b : Nat} (ha : a < 2 ^ 32) (hb : b < 2 ^ 32) : nI a = nI b ↔ a = b := by
  constructor
  · intro h
    have h2 := congrArg (fun x => x.toBitVec.toNat) h
    have h2 : (BitVec.ofNat 32 a).toNat = (BitVec.ofNat 32 b).toNat := h2
    rw [BitVec.toNat_ofNat, BitVec.toNat_ofNat] at h2
    omega
  · intro h; rw [h]
theorem nI_subw {a b : Nat} (hb : b ≤ a + 2 ^ 32) : nI a - nI b = nI (a + 2 ^ 32 - b) := by
  have e : nI (a + 2 ^ 32 - b) + nI b = nI a := by rw [nI_add]; exact nI_w (by omega)
  rw [← e]; exact Int32.add_sub_cancel _ _
theorem or_z {a b : Nat} (ha : a < 2 ^ 32) (hb : b < 2 ^ 32) : (nI a ||| nI b = 0) ↔ (a = 0 ∧ b = 0) := by
  rw [nI_or, show (0 : Int32) = nI 0 from rfl, nI_eqw (Nat.or_lt_two_pow ha hb) (by decide)]
  exact Nat.or_eq_zero_iff
theorem st_J4___HI (l : Launch) (x : UInt64) : sC l yJ4___HI cJ4___HI 4 (some .int) 1 [.double x] (some (.int (hiI x))) := by
  refine ss_startF (own := RJ4) (by decide +kernel) rfl (Nat.le_of_ble_eq_true rfl) ?_
  intro p0 e0 s0 mid bl0 me0 co0 ls S hr hlk hl
  have hx := S.1; have hb := S.2.1; have hml := S.2.2.1; have hown := S.2.2.2.1; have hts := S.2.2.2.2
  have hl : lv_has ls 4 [(0, .double x)] := hl
  refine lv_dload_n hx hb dJ4___HI_0 rfl (lv_at hl 0 rfl) ?_
  refine vn_d2l hx hb (hml.trans hl.1.symm) hown (hts _ q817) (hts _ q180) (hts _ q179) (hts _ q55) (Nat.le_of_ble_eq_true rfl) (Nat.le_of_ble_eq_true rfl) dJ4___HI_1 ?_
  refine lv_lstore_n (lv' := [(2, .long ((x).toInt64)), (0, .double x)]) hx hb dJ4___HI_4 rfl hl (by decide) rfl (fun ls hl => ?_)
  refine lv_lload_n hx hb dJ4___HI_5 rfl (lv_at hl 0 rfl) ?_
  refine lv_bipush (v := nI 32) hx hb dJ4___HI_6 (by decide) ?_
  refine lv_lshr (v := (((x).toInt64) >>> ((nI 32).toInt64 &&& 63))) hx hb dJ4___HI_8 rfl ?_
  refine lv_l2i (v := ((((x).toInt64) >>> ((nI 32).toInt64 &&& 63))).toInt32) hx hb dJ4___HI_9 rfl ?_
  exact ss_iret S hr hlk (by rfl) dJ4___HI_10
theorem st_J4___LO (l : Launch) (x : UInt64) : sC l yJ4___LO cJ4___LO 4 (some .int) 1 [.double x] (some (.int (loI x))) := by
  refine ss_startF (own := RJ4) (by decide +kernel) rfl (Nat.le_of_ble_eq_true rfl) ?_
  intro p0 e0 s0 mid bl0 me0 co0 ls S hr hlk hl
  have hx := S.1; have hb := S.2.1; have hml := S.2.2.1; have hown := S.2.2.2.1; have hts := S.2.2.2.2
  have hl : lv_has ls 4 [(0, .double x)] := hl
  refine lv_dload_n hx hb dJ4___LO_0 rfl (lv_at hl 0 rfl) ?_
  refine vn_d2l hx hb (hml.trans hl.1.symm) hown (hts _ q817) (hts _ q180) (hts _ q179) (hts _ q55) (Nat.le_of_ble_eq_true rfl) (Nat.le_of_ble_eq_true rfl) dJ4___LO_1 ?_
  refine lv_lstore_n (lv' := [(2, .long ((x).toInt64)), (0, .double x)]) hx hb dJ4___LO_4 rfl hl (by decide) rfl (fun ls hl => ?_)
  refine lv_lload_n hx hb dJ4___LO_5 rfl (lv_at hl 0 rfl) ?_
  refine lv_l2i (v := ((x).toInt64).toInt32) hx hb dJ4___LO_6 rfl ?_
  exact ss_iret S hr hlk (by rfl) dJ4___LO_7
theorem st_J4___HI_LO (l : Launch) (a : Int32) (b : Int32) (h1 : vn_snl2d (hlL a b) = false) : sC l yJ4___HI_LO cJ4___HI_LO 2 (some .double) 1 [.int a, .int b] (some (.double ((hlL a b).toUInt64))) := by
  refine ss_startF (own := RJ4) (by decide +kernel) rfl (Nat.le_of_ble_eq_true rfl) ?_
  intro p0 e0 s0 mid bl0 me0 co0 ls S hr hlk hl
  have hx := S.1; have hb := S.2.1; have hml := S.2.2.1; have hown := S.2.2.2.1; have hts := S.2.2.2.2
  have hl : lv_has ls 2 [(0, .int a), (1, .int b)] := hl
  refine lv_iload_n hx hb dJ4___HI_LO_0 rfl (lv_at hl 0 rfl) ?_
  refine lv_i2l (v := (a).toInt64) hx hb dJ4___HI_LO_1 rfl ?_
  refine lv_bipush (v := nI 32) hx hb dJ4___HI_LO_2 (by decide) ?_
  refine lv_lshl (v := (((a).toInt64) <<< ((nI 32).toInt64 &&& 63))) hx hb dJ4___HI_LO_4 rfl ?_
  refine lv_iload_n hx hb dJ4___HI_LO_5 rfl (lv_at hl 1 rfl) ?_
  refine lv_i2l (v := (b).toInt64) hx hb dJ4___HI_LO_6 rfl ?_
  refine lv_ldc2 hx hb hown (hts _ q836) dJ4___HI_LO_7 ?_
  refine lv_land hx hb dJ4___HI_LO_10 ?_
  refine lv_lor hx hb dJ4___HI_LO_11 ?_
  refine vn_l2d hx hb (hml.trans hl.1.symm) hown (hts _ q837) (hts _ q166) (hts _ q165) (hts _ q55) h1 (Nat.le_of_ble_eq_true rfl) (Nat.le_of_ble_eq_true rfl) dJ4___HI_LO_12 ?_
  exact ss_dret S hr hlk (by rfl) dJ4___HI_LO_15
theorem st_J5_compareUnsigned (l : Launch) (a : Int32) (b : Int32) : sC l yJ5_compareUnsigned cJ5_compareUnsigned 2 (some .int) 1 [.int a, .int b] (some (.int (cuI a b))) := by
  refine ss_startF (own := RJ5) (by decide +kernel) rfl (Nat.le_of_ble_eq_true rfl) ?_
  intro p0 e0 s0 mid bl0 me0 co0 ls S hr hlk hl
  have hx := S.1; have hb := S.2.1; have hml := S.2.2.1; have hown := S.2.2.2.1; have hts := S.2.2.2.2
  have hl : lv_has ls 2 [(0, .int a), (1, .int b)] := hl
  refine lv_iload_n hx hb dJ5_compareUnsigned_0 rfl (lv_at hl 0 rfl) ?_
  refine lv_ldc hx hb hown (hts _ q828) dJ5_compareUnsigned_1 ?_
  refine lv_iadd hx hb dJ5_compareUnsigned_3 ?_
  refine lv_iload_n hx hb dJ5_compareUnsigned_4 rfl (lv_at hl 1 rfl) ?_
  refine lv_ldc hx hb hown (hts _ q828) dJ5_compareUnsigned_5 ?_
  refine lv_iadd hx hb dJ5_compareUnsigned_7 ?_
  refine sC_call (As := [.int (a + (-2147483648)), .int (b + (-2147483648))]) (rest := []) S (st_J5_compare l (a + (-2147483648)) (b + (-2147483648))) q829 q830 q76 q831 hd_J5_compare ⟨Nat.le_of_ble_eq_true rfl, Nat.le_of_ble_eq_true rfl⟩ rfl hl.1 rfl (Nat.le_of_ble_eq_true rfl) dJ5_compareUnsigned_8 ⟨Nat.zero_le _, Nat.zero_le _⟩ ?_
  refine W.eq (g2 := F0 mid 11 ls [.int (cmI (a + (-2147483648)) (b + (-2147483648)))]) rfl ?_
  exact ss_iret S hr hlk (by rfl) dJ5_compareUnsigned_11
theorem top_nz {w : Nat} (h : ¬ nI (w / 2 ^ 31 * 2 ^ 31) = 0) : 2 ^ 31 ≤ w := by
  apply Classical.byContradiction
  intro z
  apply h
  have e : w / 2 ^ 31 * 2 ^ 31 = 0 := by omega
  rw [e]; rfl
theorem pw_31 {b : Nat} : 2 ^ (32 - b) / 2 ≤ 2 ^ 31 := by
  have : 2 ^ (32 - b) ≤ 2 ^ 32 := Nat.pow_le_pow_right (by decide) (by omega)
  omega
theorem pw_b {b : Nat} : 2 ^ (32 - b) / 2 < 2 ^ 32 := by have := pw_31 (b := b); omega
theorem pw_z {b : Nat} (h : 2 ^ (32 - b) / 2 = 0) (hb : b ≤ 32) : b = 32 := by
  apply Classical.byContradiction
  intro c
  have : 2 ≤ 2 ^ (32 - b) := Nat.le_trans (by decide) (Nat.pow_le_pow_right (by decide) (show 1 ≤ 32 - b by omega))
  omega
theorem pw_nz {b : Nat} (hb : b ≤ 32) (h : ¬ 2 ^ (32 - b) / 2 = 0) : b ≤ 31 := by
  apply Classical.byContradiction
  intro c
  exact h (by rw [show b = 32 by omega])
theorem nI_m1 {a : Nat} (h : 1 ≤ a) : nI a + (-1) = nI (a - 1) := by
  have e : nI (a - 1) + nI 1 = nI a := by rw [nI_add]; congr 1; omega
  rw [← e]
  show nI (a - 1) + nI 1 + (-1) = nI (a - 1)
  rw [Int32.add_assoc]
  show nI (a - 1) + 0 = nI (a - 1)
  exact Int32.add_zero _
/-- the low words: no carry but for the first digit -/
theorem pw_low {b Q k : Nat} (hb : b ≤ 31) (hk : Q = k * (2 * (2 ^ (32 - b) / 2))) : 2 * Q % 2 ^ 32 + 2 ^ (32 - b) / 2 < 2 ^ 32 ∧ (2 * Q % 2 ^ 32 + 2 * (2 ^ (32 - b) / 2) < 2 ^ 32 ∨ (2 * Q % 2 ^ 32 = 0 ∧ 2 ^ (32 - b) / 2 = 2 ^ 31)) ∧ Q % 2 ^ 32 + 2 ^ (32 - b) / 2 < 2 ^ 32 := by
  have eR : 2 ^ (32 - b) / 2 = 2 ^ (31 - b) := by rw [show 32 - b = 31 - b + 1 by omega, Nat.pow_succ]; omega
  rw [eR] at hk ⊢
  have e32 : 2 ^ 32 = 2 ^ b * (2 * 2 ^ (31 - b)) := by rw [← Nat.pow_succ', ← Nat.pow_add]; congr 1; omega
  have hR : 0 < 2 ^ (31 - b) := Nat.two_pow_pos _
  have m1 : Q % 2 ^ 32 = (k % 2 ^ b) * (2 * 2 ^ (31 - b)) := by rw [hk, e32, Nat.mul_mod_mul_right]
  have hq : Q % 2 ^ 32 + 2 * 2 ^ (31 - b) ≤ 2 ^ 32 := by
    rw [m1, e32, ← Nat.succ_mul]
    exact Nat.mul_le_mul_right _ (Nat.mod_lt _ (Nat.two_pow_pos _))
  have m2 : 2 * Q % 2 ^ 32 = (2 * k % 2 ^ b) * (2 * 2 ^ (31 - b)) := by rw [hk, ← Nat.mul_assoc, e32, Nat.mul_mod_mul_right]
  by_cases c : b = 0
  · subst c
    have z : 2 * Q % 2 ^ 32 = 0 := by rw [m2]; simp [Nat.mod_one]
    refine ⟨by rw [z]; decide, Or.inr ⟨z, rfl⟩, ?_⟩
    have : Q % 2 ^ 32 + 2 * 2 ^ 31 ≤ 2 ^ 32 := hq
    show Q % 2 ^ 32 + 2 ^ 31 < 2 ^ 32
    omega
  · -- a multiple of four times the digit
    have e32b : 2 ^ 32 = 2 ^ (b - 1) * (4 * 2 ^ (31 - b)) := by
      rw [show 4 * 2 ^ (31 - b) = 2 ^ (33 - b) by rw [show 33 - b = 31 - b + 2 by omega, Nat.pow_add]; omega, ← Nat.pow_add]; congr 1; omega
    have m3 : 2 * Q % 2 ^ 32 = (k % 2 ^ (b - 1)) * (4 * 2 ^ (31 - b)) := by
      rw [show 2 * Q = k * (4 * 2 ^ (31 - b)) by rw [hk, Nat.mul_left_comm]; congr 1; omega, e32b, Nat.mul_mod_mul_right]
    have hs : 2 * Q % 2 ^ 32 + 4 * 2 ^ (31 - b) ≤ 2 ^ 32 := by
      rw [m3, e32b, ← Nat.succ_mul]
      exact Nat.mul_le_mul_right _ (Nat.mod_lt _ (Nat.two_pow_pos _))
    generalize 2 ^ (31 - b) = r at hq hs hR ⊢
    omega
theorem pw_21 {a : Nat} : 2 ^ (22 - a) / 2 ≤ 2 ^ 21 := by
  have : 2 ^ (22 - a) ≤ 2 ^ 22 := Nat.pow_le_pow_right (by decide) (by omega)
  omega
theorem pw_z1 {a : Nat} (h : 2 ^ (22 - a) / 2 = 0) (hb : a ≤ 22) : a = 22 := by
  apply Classical.byContradiction
  intro c
  have : 2 ≤ 2 ^ (22 - a) := Nat.le_trans (by decide) (Nat.pow_le_pow_right (by decide) (show 1 ≤ 22 - a by omega))
  omega
theorem pw_nz1 {a : Nat} (hb : a ≤ 22) (h : ¬ 2 ^ (22 - a) / 2 = 0) : a ≤ 21 := by
  apply Classical.byContradiction
  intro c
  exact h (by rw [show a = 22 by omega])
theorem pw_top {A i : Nat} (h : A * 2 ^ i < 2 ^ 21) (hi : i ≤ 20) : A * 2 ^ i + 2 ^ i ≤ 2 ^ 21 := by
  have e : 2 ^ 21 = 2 ^ (21 - i) * 2 ^ i := by rw [← Nat.pow_add]; congr 1; omega
  rw [e] at h ⊢
  have := Nat.lt_of_mul_lt_mul_right h
  rw [← Nat.succ_mul]
  exact Nat.mul_le_mul_right _ this
/-- the low word shifted: what goes up, what stays -/
theorem sh_dm {B i : Nat} (hB : B < 2 ^ 32) (hi : i ≤ 32) : B * 2 ^ i / 2 ^ 32 = B / 2 ^ (32 - i) := by
  have e : 2 ^ 32 = 2 ^ (32 - i) * 2 ^ i := by rw [← Nat.pow_add]; congr 1; omega
  rw [e, Nat.mul_div_mul_right _ _ (Nat.two_pow_pos _)]
/-- what the high word holds behind the shift -/
def cA_ (A B i : Nat) : Nat := if i = 0 then A ||| B else A * 2 ^ i + B / 2 ^ (32 - i)
theorem cA_or {A B i : Nat} (hB : B < 2 ^ 32) (hi : i ≤ 20) : nI (A * 2 ^ i) ||| ((nI B).toUInt32 >>> ((nI 32 - nI i).toUInt32 &&& Int32.toUInt32 31)).toInt32 = nI (cA_ A B i) := by
  unfold cA_
  by_cases h : i = 0
  · subst h
    rw [if_pos rfl]
    have e : ((nI B).toUInt32 >>> ((nI 32 - nI 0).toUInt32 &&& Int32.toUInt32 31)).toInt32 = nI (B / 2 ^ 0) := by
      rw [show ((nI 32 - nI 0).toUInt32 &&& Int32.toUInt32 31) = ((nI 0).toUInt32 &&& Int32.toUInt32 31) by decide]
      exact nI_ushr hB (by decide)
    rw [e, nI_or, Nat.pow_zero, Nat.mul_one, Nat.div_one]
  · rw [if_neg h]
    have e0 : nI 32 - nI i = nI (32 - i) := by
      have : nI (32 - i) + nI i = nI 32 := by rw [nI_add]; congr 1; omega
      rw [← this]; exact Int32.add_sub_cancel _ _
    rw [e0, nI_ushr hB (by omega), nI_or, or_add]
    exact (Nat.div_lt_iff_lt_mul (Nat.two_pow_pos _)).mpr (by rw [← Nat.pow_add, show i + (32 - i) = 32 by omega]; exact hB)
theorem cA_m {A B i : Nat} (hA3 : A * 2 ^ i < 2 ^ 21) (hA2 : 2 ^ 20 ≤ A * 2 ^ i) (hAi : A * 2 ^ i + 2 ^ i ≤ 2 ^ 21) (hB : B < 2 ^ 32) (hi : i ≤ 20) (hAB : A < 2 ^ 20 ∨ B % 2 ^ 21 = 0) : cA_ A B i % 2 ^ 20 + 2 ^ 20 = (A * 2 ^ i * 2 ^ 32 + B * 2 ^ i) / 2 ^ 32 := by
  have e1 : (A * 2 ^ i * 2 ^ 32 + B * 2 ^ i) / 2 ^ 32 = A * 2 ^ i + B / 2 ^ (32 - i) := by
    rw [Nat.add_comm, Nat.add_mul_div_right _ _ (by decide), sh_dm hB (by omega), Nat.add_comm]
  rw [e1]
  unfold cA_
  by_cases h : i = 0
  · subst h
    rw [if_pos rfl]
    rw [Nat.pow_zero, Nat.mul_one] at hA2 hA3 ⊢
    rw [show B / 2 ^ (32 - 0) = 0 from Nat.div_eq_of_lt hB, Nat.add_zero]
    have hb : B % 2 ^ 21 = 0 := by omega
    have e2 : (A ||| B) % 2 ^ 20 = A % 2 ^ 20 := by
      rw [Nat.or_mod_two_pow, show B % 2 ^ 20 = 0 by omega, Nat.or_zero]
    rw [e2]; omega
  · rw [if_neg h]
    have hd : B / 2 ^ (32 - i) < 2 ^ i := (Nat.div_lt_iff_lt_mul (Nat.two_pow_pos _)).mpr (by rw [← Nat.pow_add, show i + (32 - i) = 32 by omega]; exact hB)
    generalize 2 ^ i = w at *
    generalize B / 2 ^ (32 - i) = g at *
    generalize A * w = a at *
    omega
theorem pw_up {A : Nat} (h0 : 0 < A) (h1 : A < 2 ^ 21) : A * 2 ^ 0 < 2 ^ 21 ∧ 2 ^ 20 ≤ A * 2 ^ (0 + 20) := by
  refine ⟨by rw [Nat.pow_zero, Nat.mul_one]; exact h1, ?_⟩
  rw [Nat.zero_add]
  exact Nat.le_mul_of_pos_left _ h0
theorem rt_zero {v : UInt64} (hv : rtOK v) (h : fx_eq v FP.dconst0 = true) : v = 0 ∨ v = 9223372036854775808 := by
  have hf := bD_f hv.1
  rw [fx_eq_z hf fD_0, zD_0] at h
  have h := of_decide_eq_true h
  obtain ⟨s, c, q, hvv⟩ := hf
  have hb := v64_bits hvv
  unfold zD at h
  rw [hvv, zv_f] at h
  have hc : c = 0 := by
    have h2 := congrArg Int.natAbs h
    rw [fl_sgn_abs] at h2
    have h2 : c * 2 ^ (q + 1074).toNat = 0 := h2
    rcases Nat.mul_eq_zero.mp h2 with h3 | h3
    · exact h3
    · exact absurd h3 (Nat.pos_iff_ne_zero.mp (Nat.two_pow_pos _))
  rw [hc] at hb
  cases s with
  | false => left; apply UInt64.toNat_inj.mp; rw [hb]; rw [if_neg (by decide), if_pos (by decide)]; rfl
  | true => right; apply UInt64.toNat_inj.mp; rw [hb]; rw [if_pos rfl, if_pos (by decide)]; rfl
theorem st_J3_compute (l : Launch) (v : UInt64) (hv : rtOK v) : sT l yJ3_compute cJ3_compute 16 (some .double) 2 [.double v] (some (.double (rtD v))) := by
  refine tts_start (own := RJ3) (by decide +kernel) rfl (Nat.le_of_ble_eq_true rfl) ?_
  intro p0 e0 s0 mid bl0 me0 co0 ls S hr hlk hns hl
  have hx := S.1; have hb := S.2.1; have hml := S.2.2.1; have hown := S.2.2.2.1; have hts := S.2.2.2.2
  have hl : lv_has ls 16 [(0, .double v)] := hl
  have J524 : fx_eq v FP.dconst0 = false → ∀ Qf : Nat, Qf / 2 = rtR v → Qf < 2 ^ 55 → ∀ (ls : Array Slot), lv_has ls 16 [(12, .int (nI (Qf / 2 ^ 32))), (9, .int (nI (Qf % 2 ^ 32))), (13, .int (Int32.ofInt (rtP v / 2 + 26))), (4, .int (-2147483648))] → W p0 l e0 (rm_ 2) s0 mid ([.double v] : List Value).toArray bl0 me0 co0 s0.heap [] 0 0 (MQ bl0 (sQ (some (.double (rtD v)))) ([.double v] : List Value).toArray s0 0 0 (fun _ => False)) (F0 mid 524 ls []) := by
    intro h0 Qf hQ hQb ls hl
    obtain ⟨va, vb⟩ := rtOK_p hv h0
    obtain ⟨m1, m2⟩ := rtM_rng va vb
    obtain ⟨p1, p2⟩ := rtP_rng vb va
    have pe := rtP_ev v
    have hZ := rtZ_n hv h0
    refine lv_iload hx hb dJ3_compute_524 (lv_at hl 0 rfl) ?_
    refine lv_iconst (v := nI 1) hx hb dJ3_compute_526 (by decide) ?_
    refine lv_ishr hx hb dJ3_compute_527 ?_
    refine w_st (st' := [.int (nI (Qf / 2 ^ 32 / 2 ^ 1))]) (by rw [nI_shr (by omega) (by decide)]) ?_
    refine lv_ldc hx hb hown (hts _ q832) dJ3_compute_528 ?_
    refine w_st (st' := [.int (nI 1071644672), .int (nI (Qf / 2 ^ 32 / 2 ^ 1))]) (by rfl) ?_
    refine nn_add hx hb dJ3_compute_530 ?_
    refine lv_istore (lv' := [(10, .int (nI ((Qf / 2 ^ 32 / 2 ^ 1) + 1071644672))), (12, .int (nI (Qf / 2 ^ 32))), (9, .int (nI (Qf % 2 ^ 32))), (13, .int (Int32.ofInt (rtP v / 2 + 26))), (4, .int (-2147483648))]) hx hb dJ3_compute_531 hl (by decide) rfl (fun ls hl => ?_)
    refine lv_iload hx hb dJ3_compute_533 (lv_at hl 2 rfl) ?_
    refine lv_iconst (v := nI 1) hx hb dJ3_compute_535 (by decide) ?_
    refine lv_iushr (v := nI (Qf % 2 ^ 32 / 2 ^ 1)) hx hb dJ3_compute_536 (by rw [nI_ushr (by omega) (by decide)]) ?_
    refine lv_istore (lv' := [(8, .int (nI (Qf % 2 ^ 32 / 2 ^ 1))), (10, .int (nI ((Qf / 2 ^ 32 / 2 ^ 1) + 1071644672))), (12, .int (nI (Qf / 2 ^ 32))), (9, .int (nI (Qf % 2 ^ 32))), (13, .int (Int32.ofInt (rtP v / 2 + 26))), (4, .int (-2147483648))]) hx hb dJ3_compute_537 hl (by decide) rfl (fun ls hl => ?_)
    refine lv_iload hx hb dJ3_compute_539 (lv_at hl 2 rfl) ?_
    refine lv_iconst (v := nI 1) hx hb dJ3_compute_541 (by decide) ?_
    refine lv_iand hx hb dJ3_compute_542 ?_
    refine w_st (st' := [.int (nI (Qf / 2 ^ 32 % 2 ^ 1))]) (by rw [nI_and, show (1 : Nat) = 2 ^ 1 - 1 from rfl, and_m]) ?_
    refine lv_iconst (v := nI 1) hx hb dJ3_compute_543 (by decide) ?_
    refine nn_cne (tgt := 554) hx hb (by omega) (by omega) dJ3_compute_544 (by decide) (fun c_544 => ?_) (fun c_544 => ?_)
    · refine lv_iload hx hb dJ3_compute_554 (lv_at hl 1 rfl) ?_
      refine lv_iload hx hb dJ3_compute_556 (lv_at hl 4 rfl) ?_
      refine lv_bipush (v := nI 20) hx hb dJ3_compute_558 (by decide) ?_
      refine lv_ishl hx hb dJ3_compute_560 ?_
      refine w_st (st' := [.int (Int32.ofInt ((rtP v / 2 + 26) * 1048576)), .int (nI ((Qf / 2 ^ 32 / 2 ^ 1) + 1071644672))]) (by rw [iZ_shl]) ?_
      refine lv_iadd hx hb dJ3_compute_561 ?_
      refine w_st (st' := [.int (nI ((Qf / 2 ^ 32 / 2 ^ 1 + 1071644672 + (rtP v / 2 + 26) * 1048576 : Int).toNat))]) (by rw [iZ_nI, iZ_add, iZ_nI]; exact congrArg (fun z => [Value.int (Int32.ofInt z)]) (by omega)) ?_
      refine lv_istore (lv' := [(10, .int (nI ((Qf / 2 ^ 32 / 2 ^ 1 + 1071644672 + (rtP v / 2 + 26) * 1048576 : Int).toNat))), (8, .int (nI (Qf % 2 ^ 32 / 2 ^ 1))), (12, .int (nI (Qf / 2 ^ 32))), (9, .int (nI (Qf % 2 ^ 32))), (13, .int (Int32.ofInt (rtP v / 2 + 26))), (4, .int (-2147483648))]) hx hb dJ3_compute_562 hl (by decide) rfl (fun ls hl => ?_)
      refine lv_iload hx hb dJ3_compute_564 (lv_at hl 0 rfl) ?_
      refine lv_iload hx hb dJ3_compute_566 (lv_at hl 1 rfl) ?_
      have hlo : (Qf % 2 ^ 32 / 2 ^ 1) < 2 ^ 32 := by omega
      have hhi : (Qf / 2 ^ 32 / 2 ^ 1 + 1071644672 + (rtP v / 2 + 26) * 1048576 : Int).toNat < 2 ^ 31 := by omega
      have hsum : (Qf / 2 ^ 32 / 2 ^ 1 + 1071644672 + (rtP v / 2 + 26) * 1048576 : Int).toNat * 2 ^ 32 + (Qf % 2 ^ 32 / 2 ^ 1) = (rtP v / 2 + 1048).toNat * 2 ^ 52 + rtR v := by rw [← hQ]; omega
      have hle_ := hl_n hhi hlo
      have hres : (hlL (nI (Qf / 2 ^ 32 / 2 ^ 1 + 1071644672 + (rtP v / 2 + 26) * 1048576 : Int).toNat) (nI (Qf % 2 ^ 32 / 2 ^ 1))).toUInt64 = rtD v := by rw [hle_, rtD_bits hv h0]; apply UInt64.toNat_inj.mp; rw [hZ, hsum]; exact UInt64.toNat_ofNat_of_lt' (by rw [← hZ]; exact UInt64.toNat_lt _)
      have hsn : vn_snl2d (hlL (nI (Qf / 2 ^ 32 / 2 ^ 1 + 1071644672 + (rtP v / 2 + 26) * 1048576 : Int).toNat) (nI (Qf % 2 ^ 32 / 2 ^ 1))) = false := nb_sn (by rw [hres]; exact rt_n' hv)
      refine sN_call (As := [.int (nI ((Qf / 2 ^ 32 / 2 ^ 1 + 1071644672 + (rtP v / 2 + 26) * 1048576 : Int).toNat)), .int (nI (Qf % 2 ^ 32 / 2 ^ 1))]) (rest := []) S (st_J4___HI_LO l (nI (Qf / 2 ^ 32 / 2 ^ 1 + 1071644672 + (rtP v / 2 + 26) * 1048576 : Int).toNat) (nI (Qf % 2 ^ 32 / 2 ^ 1)) hsn) hns.2.2 q834 q75 q835 hd_J4___HI_LO ⟨Nat.le_of_ble_eq_true rfl, Nat.le_of_ble_eq_true rfl⟩ rfl hl.1 rfl (Nat.le_of_ble_eq_true rfl) dJ3_compute_568 ⟨Nat.zero_le _, Nat.zero_le _⟩ ?_
      refine W.eq (g2 := F0 mid 571 ls [.double (rtD v)]) (by exact congrArg (fun z => F0 mid 571 ls [Value.double z]) hres) ?_
      exact ss_dret S hr hlk rfl dJ3_compute_571
    · refine lv_iload hx hb dJ3_compute_547 (lv_at hl 0 rfl) ?_
      refine lv_iload hx hb dJ3_compute_549 (lv_at hl 5 rfl) ?_
      refine lv_ior hx hb dJ3_compute_551 ?_
      refine w_st (st' := [.int (nI (Qf % 2 ^ 32 / 2 ^ 1 + 2 ^ 31))]) (by rw [nI_sgn, nI_or, Nat.or_comm, or_add (k := 31) (by omega), Nat.add_comm, Nat.one_mul]) ?_
      refine lv_istore (lv' := [(8, .int (nI (Qf % 2 ^ 32 / 2 ^ 1 + 2 ^ 31))), (10, .int (nI ((Qf / 2 ^ 32 / 2 ^ 1) + 1071644672))), (12, .int (nI (Qf / 2 ^ 32))), (9, .int (nI (Qf % 2 ^ 32))), (13, .int (Int32.ofInt (rtP v / 2 + 26))), (4, .int (-2147483648))]) hx hb dJ3_compute_552 hl (by decide) rfl (fun ls hl => ?_)
      refine lv_iload hx hb dJ3_compute_554 (lv_at hl 1 rfl) ?_
      refine lv_iload hx hb dJ3_compute_556 (lv_at hl 4 rfl) ?_
      refine lv_bipush (v := nI 20) hx hb dJ3_compute_558 (by decide) ?_
      refine lv_ishl hx hb dJ3_compute_560 ?_
      refine w_st (st' := [.int (Int32.ofInt ((rtP v / 2 + 26) * 1048576)), .int (nI ((Qf / 2 ^ 32 / 2 ^ 1) + 1071644672))]) (by rw [iZ_shl]) ?_
      refine lv_iadd hx hb dJ3_compute_561 ?_
      refine w_st (st' := [.int (nI ((Qf / 2 ^ 32 / 2 ^ 1 + 1071644672 + (rtP v / 2 + 26) * 1048576 : Int).toNat))]) (by rw [iZ_nI, iZ_add, iZ_nI]; exact congrArg (fun z => [Value.int (Int32.ofInt z)]) (by omega)) ?_
      refine lv_istore (lv' := [(10, .int (nI ((Qf / 2 ^ 32 / 2 ^ 1 + 1071644672 + (rtP v / 2 + 26) * 1048576 : Int).toNat))), (8, .int (nI (Qf % 2 ^ 32 / 2 ^ 1 + 2 ^ 31))), (12, .int (nI (Qf / 2 ^ 32))), (9, .int (nI (Qf % 2 ^ 32))), (13, .int (Int32.ofInt (rtP v / 2 + 26))), (4, .int (-2147483648))]) hx hb dJ3_compute_562 hl (by decide) rfl (fun ls hl => ?_)
      refine lv_iload hx hb dJ3_compute_564 (lv_at hl 0 rfl) ?_
      refine lv_iload hx hb dJ3_compute_566 (lv_at hl 1 rfl) ?_
      have hlo : (Qf % 2 ^ 32 / 2 ^ 1 + 2 ^ 31) < 2 ^ 32 := by omega
      have hhi : (Qf / 2 ^ 32 / 2 ^ 1 + 1071644672 + (rtP v / 2 + 26) * 1048576 : Int).toNat < 2 ^ 31 := by omega
      have hsum : (Qf / 2 ^ 32 / 2 ^ 1 + 1071644672 + (rtP v / 2 + 26) * 1048576 : Int).toNat * 2 ^ 32 + (Qf % 2 ^ 32 / 2 ^ 1 + 2 ^ 31) = (rtP v / 2 + 1048).toNat * 2 ^ 52 + rtR v := by rw [← hQ]; omega
      have hle_ := hl_n hhi hlo
      have hres : (hlL (nI (Qf / 2 ^ 32 / 2 ^ 1 + 1071644672 + (rtP v / 2 + 26) * 1048576 : Int).toNat) (nI (Qf % 2 ^ 32 / 2 ^ 1 + 2 ^ 31))).toUInt64 = rtD v := by rw [hle_, rtD_bits hv h0]; apply UInt64.toNat_inj.mp; rw [hZ, hsum]; exact UInt64.toNat_ofNat_of_lt' (by rw [← hZ]; exact UInt64.toNat_lt _)
      have hsn : vn_snl2d (hlL (nI (Qf / 2 ^ 32 / 2 ^ 1 + 1071644672 + (rtP v / 2 + 26) * 1048576 : Int).toNat) (nI (Qf % 2 ^ 32 / 2 ^ 1 + 2 ^ 31))) = false := nb_sn (by rw [hres]; exact rt_n' hv)
      refine sN_call (As := [.int (nI ((Qf / 2 ^ 32 / 2 ^ 1 + 1071644672 + (rtP v / 2 + 26) * 1048576 : Int).toNat)), .int (nI (Qf % 2 ^ 32 / 2 ^ 1 + 2 ^ 31))]) (rest := []) S (st_J4___HI_LO l (nI (Qf / 2 ^ 32 / 2 ^ 1 + 1071644672 + (rtP v / 2 + 26) * 1048576 : Int).toNat) (nI (Qf % 2 ^ 32 / 2 ^ 1 + 2 ^ 31)) hsn) hns.2.2 q834 q75 q835 hd_J4___HI_LO ⟨Nat.le_of_ble_eq_true rfl, Nat.le_of_ble_eq_true rfl⟩ rfl hl.1 rfl (Nat.le_of_ble_eq_true rfl) dJ3_compute_568 ⟨Nat.zero_le _, Nat.zero_le _⟩ ?_
      refine W.eq (g2 := F0 mid 571 ls [.double (rtD v)]) (by exact congrArg (fun z => F0 mid 571 ls [Value.double z]) hres) ?_
      exact ss_dret S hr hlk rfl dJ3_compute_571
  have J460 : fx_eq v FP.dconst0 = false → ∀ (ls : Array Slot), lv_has ls 16 [(10, .int (nI ((fdQ (rtM v) 54).2 / 2 ^ 32))), (8, .int (nI ((fdQ (rtM v) 54).2 % 2 ^ 32))), (12, .int (nI ((fdQ (rtM v) 54).1 / 2 ^ 32))), (9, .int (nI ((fdQ (rtM v) 54).1 % 2 ^ 32))), (13, .int (Int32.ofInt (rtP v / 2 + 26))), (4, .int (-2147483648))] → W p0 l e0 (rm_ 2) s0 mid ([.double v] : List Value).toArray bl0 me0 co0 s0.heap [] 0 0 (MQ bl0 (sQ (some (.double (rtD v)))) ([.double v] : List Value).toArray s0 0 0 (fun _ => False)) (F0 mid 460 ls []) := by
    intro h0 ls hl
    obtain ⟨va, vb⟩ := rtOK_p hv h0
    obtain ⟨m1, m2⟩ := rtM_rng va vb
    obtain ⟨b1, b2⟩ := fd_b m2 (Nat.le_refl 54)
    obtain ⟨f1, f2⟩ := fd_rt m2
    have hR : rtR v = ((fdQ (rtM v) 54).1 + 1) / 2 := by unfold rtR; rw [f1]
    have b1 : (fdQ (rtM v) 54).1 + 1 ≤ 2 ^ 54 := b1
    generalize hQe : (fdQ (rtM v) 54).1 = Qe at hl b1 f2 hR
    generalize hXe : (fdQ (rtM v) 54).2 = Xe at hl b2 f2
    refine lv_iload hx hb dJ3_compute_460 (lv_at hl 0 rfl) ?_
    refine lv_iload hx hb dJ3_compute_462 (lv_at hl 1 rfl) ?_
    refine lv_ior hx hb dJ3_compute_464 ?_
    refine lv_if_eq (tgt := 524) hx hb dJ3_compute_465 (by decide) (fun c_465 => ?_) (fun c_465 => ?_)
    · rw [or_z (by omega) (by omega)] at c_465
      have hz := f2 (by omega)
      exact J524 h0 Qe (by omega) (by omega) ls (lv_sub hl [2, 3, 4, 5] rfl)
    · rw [or_z (by omega) (by omega)] at c_465
      refine lv_dconst1 hx hb dJ3_compute_468 ?_
      refine lv_dstore_n (lv' := [(2, .double FP.dconst1), (10, .int (nI (Xe / 2 ^ 32))), (8, .int (nI (Xe % 2 ^ 32))), (12, .int (nI (Qe / 2 ^ 32))), (9, .int (nI (Qe % 2 ^ 32))), (13, .int (Int32.ofInt (rtP v / 2 + 26))), (4, .int (-2147483648))]) hx hb dJ3_compute_469 rfl hl (by decide) rfl (fun ls hl => ?_)
      refine lv_dload_n hx hb dJ3_compute_470 rfl (lv_at hl 0 rfl) ?_
      refine lv_dconst1 hx hb dJ3_compute_471 ?_
      refine fx_jllt (tgt := 524) hx hb dJ3_compute_472 dJ3_compute_473 (by decide) (fun c_473 => by exfalso; exact absurd c_473 (by decide +kernel)) (fun c_473 => ?_)
      refine lv_dconst1 hx hb dJ3_compute_476 ?_
      refine lv_dstore_n (lv' := [(2, .double FP.dconst1), (10, .int (nI (Xe / 2 ^ 32))), (8, .int (nI (Xe % 2 ^ 32))), (12, .int (nI (Qe / 2 ^ 32))), (9, .int (nI (Qe % 2 ^ 32))), (13, .int (Int32.ofInt (rtP v / 2 + 26))), (4, .int (-2147483648))]) hx hb dJ3_compute_477 rfl hl (by decide) rfl (fun ls hl => ?_)
      refine lv_iload hx hb dJ3_compute_478 (lv_at hl 4 rfl) ?_
      refine lv_iconst (v := (-1)) hx hb dJ3_compute_480 (by decide) ?_
      refine lv_icmp_ne (tgt := 493) hx hb dJ3_compute_481 (by decide) (fun c_481 => ?_) (fun c_481 => ?_)
      · have c2 : ¬ Qe % 2 ^ 32 = 4294967295 := fun z => c_481 (by rw [z]; rfl)
        refine lv_dload_n hx hb dJ3_compute_493 rfl (lv_at hl 0 rfl) ?_
        refine lv_dconst1 hx hb dJ3_compute_494 ?_
        refine fx_jlle (tgt := 515) hx hb dJ3_compute_495 dJ3_compute_496 (by decide) (fun c_496 => ?_) (fun c_496 => by exfalso; exact absurd c_496 (by decide +kernel))
        refine lv_iload hx hb dJ3_compute_515 (lv_at hl 4 rfl) ?_
        refine lv_iload hx hb dJ3_compute_517 (lv_at hl 4 rfl) ?_
        refine lv_iconst (v := nI 1) hx hb dJ3_compute_519 (by decide) ?_
        refine lv_iand hx hb dJ3_compute_520 ?_
        refine w_st (st' := [.int (nI (Qe % 2 ^ 32 % 2 ^ 1)), .int (nI (Qe % 2 ^ 32))]) (by rw [nI_and, show (1 : Nat) = 2 ^ 1 - 1 from rfl, and_m]) ?_
        refine nn_add hx hb dJ3_compute_521 ?_
        refine lv_istore (lv' := [(9, .int (nI ((Qe % 2 ^ 32) + (Qe % 2 ^ 32 % 2 ^ 1)))), (2, .double FP.dconst1), (10, .int (nI (Xe / 2 ^ 32))), (8, .int (nI (Xe % 2 ^ 32))), (12, .int (nI (Qe / 2 ^ 32))), (13, .int (Int32.ofInt (rtP v / 2 + 26))), (4, .int (-2147483648))]) hx hb dJ3_compute_522 hl (by decide) rfl (fun ls hl => ?_)
        exact J524 h0 (Qe + Qe % 2) (by omega) (by omega) ls (lv_eq (lv_sub (l' := [(12, .int (nI (Qe / 2 ^ 32))), (9, .int (nI ((Qe % 2 ^ 32) + (Qe % 2 ^ 32 % 2 ^ 1)))), (13, .int (Int32.ofInt (rtP v / 2 + 26))), (4, .int (-2147483648))]) hl [4, 0, 5, 6] rfl) (by rw [show (Qe + Qe % 2) / 2 ^ 32 = Qe / 2 ^ 32 by omega, show (Qe + Qe % 2) % 2 ^ 32 = Qe % 2 ^ 32 + Qe % 2 ^ 32 % 2 ^ 1 by omega]))
      · have c2 : Qe % 2 ^ 32 = 4294967295 := (nI_eqw (by omega) (by decide)).mp (c_481.trans rfl)
        refine lv_iconst (v := nI 0) hx hb dJ3_compute_484 (by decide) ?_
        refine lv_istore (lv' := [(9, .int (nI 0)), (2, .double FP.dconst1), (10, .int (nI (Xe / 2 ^ 32))), (8, .int (nI (Xe % 2 ^ 32))), (12, .int (nI (Qe / 2 ^ 32))), (13, .int (Int32.ofInt (rtP v / 2 + 26))), (4, .int (-2147483648))]) hx hb dJ3_compute_485 hl (by decide) rfl (fun ls hl => ?_)
        refine lv_iinc (v := nI ((Qe / 2 ^ 32) + 1)) (lv' := [(12, .int (nI ((Qe / 2 ^ 32) + 1))), (9, .int (nI 0)), (2, .double FP.dconst1), (10, .int (nI (Xe / 2 ^ 32))), (8, .int (nI (Xe % 2 ^ 32))), (13, .int (Int32.ofInt (rtP v / 2 + 26))), (4, .int (-2147483648))]) hx hb dJ3_compute_487 hl (k := 4) rfl (nI_1 _) (by decide) rfl (fun ls hl => ?_)
        refine lv_goto (tgt := 524) hx hb dJ3_compute_490 (by decide) ?_
        exact J524 h0 (Qe + 1) (by omega) (by omega) ls (lv_eq (lv_sub (l' := [(12, .int (nI ((Qe / 2 ^ 32) + 1))), (9, .int (nI 0)), (13, .int (Int32.ofInt (rtP v / 2 + 26))), (4, .int (-2147483648))]) hl [0, 1, 5, 6] rfl) (by rw [show (Qe + 1) / 2 ^ 32 = Qe / 2 ^ 32 + 1 by omega, show (Qe + 1) % 2 ^ 32 = 0 by omega]))
  have L2 : fx_eq v FP.dconst0 = false → ∀ (n_ b : Nat), b ≤ 32 → 32 < b + n_ → ∀ (ls : Array Slot), lv_has ls 16 [(5, .int (nI (2 ^ (32 - b) / 2))), (7, .int (nI (2 * (fdQ (rtM v) (22 + b)).1 % 2 ^ 32))), (11, .int (nI (2 * (fdQ (rtM v) (22 + b)).1 / 2 ^ 32))), (10, .int (nI ((fdQ (rtM v) (22 + b)).2 / 2 ^ 32))), (8, .int (nI ((fdQ (rtM v) (22 + b)).2 % 2 ^ 32))), (12, .int (nI ((fdQ (rtM v) (22 + b)).1 / 2 ^ 32))), (9, .int (nI ((fdQ (rtM v) (22 + b)).1 % 2 ^ 32))), (13, .int (Int32.ofInt (rtP v / 2 + 26))), (4, .int (-2147483648))] → W p0 l e0 (rm_ 2) s0 mid ([.double v] : List Value).toArray bl0 me0 co0 s0.heap [] 0 0 (MQ bl0 (sQ (some (.double (rtD v)))) ([.double v] : List Value).toArray s0 0 0 (fun _ => False)) (F0 mid 326 ls []) := by
    intro h0 n_
    obtain ⟨va, vb⟩ := rtOK_p hv h0
    obtain ⟨m1, m2⟩ := rtM_rng va vb
    induction n_ with
    | zero => intro b h1_ h2_; exact absurd h2_ (by omega)
    | succ n_ ih =>
      intro b h1_ h2_ ls hl
      refine lv_iload hx hb dJ3_compute_326 (lv_at hl 0 rfl) ?_
      have ih := ih (b + 1)
      refine lv_if_eq (tgt := 460) hx hb dJ3_compute_328 (by decide) (fun c_328 => ?_) (fun c_328 => ?_)
      · have c_328 := (nI_eqw pw_b (by decide)).mp (c_328.trans (show (0 : Int32) = nI 0 from rfl))
        have hb32 : b = 32 := pw_z c_328 h1_
        subst hb32
        exact J460 h0 ls (lv_sub hl [3, 4, 5, 6, 7, 8] rfl)
      · have hb31 : b ≤ 31 := pw_nz h1_ (fun z => c_328 (by rw [z]; rfl))
        obtain ⟨⟨k_, hk_⟩, i1_, i2_⟩ := fd_inv m2 rfl (22 + b) (by omega)
        clear i1_ i2_
        obtain ⟨b1, b2⟩ := fd_b m2 (show 22 + b ≤ 54 by omega)
        have e54 : 2 ^ (54 - (22 + b)) = 2 * (2 ^ (32 - b) / 2) := by rw [show 54 - (22 + b) = 31 - b + 1 by omega, show 32 - b = 31 - b + 1 by omega, Nat.pow_succ]; omega
        have e53 : 2 ^ (53 - (22 + b)) = 2 ^ (32 - b) / 2 := by rw [show 53 - (22 + b) = 31 - b by omega, show 32 - b = 31 - b + 1 by omega, Nat.pow_succ]; omega
        have eR2 : 2 ^ (32 - (b + 1)) / 2 = 2 ^ (32 - b) / 2 / 2 := by rw [show 32 - b = 32 - (b + 1) + 1 by omega, Nat.pow_succ]; omega
        have hlow := pw_low (Q := (fdQ (rtM v) (22 + b)).1) (k := k_) hb31 (by rw [hk_, e54])
        have hS : fdQ (rtM v) (22 + (b + 1)) = fdS (22 + b) (fdQ (rtM v) (22 + b)) := fdQ_s (rtM v) (22 + b)
        unfold fdS at hS
        rw [e53] at hS
        rw [e54] at b1
        rw [eR2] at ih
        have hpb : 2 ^ (32 - b) / 2 ≤ 2 ^ 31 := pw_31
        generalize (fdQ (rtM v) (22 + b)).1 = Q at hl b1 hS hlow
        generalize (fdQ (rtM v) (22 + b)).2 = X at hl b2 hS
        generalize 2 ^ (32 - b) / 2 = r at hl b1 hS hlow ih hpb
        clear hk_ e54 e53 eR2 c_328
        have J428 : ∀ (Qn Y : Nat), fdQ (rtM v) (22 + (b + 1)) = (Qn, 2 * Y) → Y < 2 ^ 56 → ∀ (ls : Array Slot), lv_has ls 16 [(7, .int (nI (2 * Qn % 2 ^ 32))), (11, .int (nI (2 * Qn / 2 ^ 32))), (10, .int (nI (Y / 2 ^ 32))), (8, .int (nI (Y % 2 ^ 32))), (12, .int (nI (Qn / 2 ^ 32))), (9, .int (nI (Qn % 2 ^ 32))), (5, .int (nI r)), (13, .int (Int32.ofInt (rtP v / 2 + 26))), (4, .int (-2147483648))] → W p0 l e0 (rm_ 2) s0 mid ([.double v] : List Value).toArray bl0 me0 co0 s0.heap [] 0 0 (MQ bl0 (sQ (some (.double (rtD v)))) ([.double v] : List Value).toArray s0 0 0 (fun _ => False)) (F0 mid 428 ls []) := by
          intro Qn Y hQY hY ls hl
          refine lv_iload hx hb dJ3_compute_428 (lv_at hl 2 rfl) ?_
          refine lv_iload hx hb dJ3_compute_430 (lv_at hl 2 rfl) ?_
          refine lv_iload hx hb dJ3_compute_432 (lv_at hl 3 rfl) ?_
          refine lv_iload hx hb dJ3_compute_434 (lv_at hl 8 rfl) ?_
          refine lv_iand hx hb dJ3_compute_436 ?_
          refine w_st (st' := [.int (nI (Y % 2 ^ 32 / 2 ^ 31 * 2 ^ 31)), .int (nI (Y / 2 ^ 32)), .int (nI (Y / 2 ^ 32))]) (by rw [nI_top (Nat.mod_lt _ (by decide))]) ?_
          refine lv_bipush (v := nI 31) hx hb dJ3_compute_437 (by decide) ?_
          refine lv_iushr (v := nI (Y % 2 ^ 32 / 2 ^ 31)) hx hb dJ3_compute_439 (by rw [nI_ushr (by omega) (by decide)]; exact congrArg nI (by omega)) ?_
          refine nn_add hx hb dJ3_compute_440 ?_
          refine lv_iadd hx hb dJ3_compute_441 ?_
          refine w_st (st' := [.int (nI (2 * Y / 2 ^ 32))]) (by rw [nI_add]; exact congrArg (fun z => [Value.int (nI z)]) (by omega)) ?_
          refine lv_istore (lv' := [(10, .int (nI (2 * Y / 2 ^ 32))), (7, .int (nI (2 * Qn % 2 ^ 32))), (11, .int (nI (2 * Qn / 2 ^ 32))), (8, .int (nI (Y % 2 ^ 32))), (12, .int (nI (Qn / 2 ^ 32))), (9, .int (nI (Qn % 2 ^ 32))), (5, .int (nI r)), (13, .int (Int32.ofInt (rtP v / 2 + 26))), (4, .int (-2147483648))]) hx hb dJ3_compute_442 hl (by decide) rfl (fun ls hl => ?_)
          refine lv_iload hx hb dJ3_compute_444 (lv_at hl 3 rfl) ?_
          refine lv_iload hx hb dJ3_compute_446 (lv_at hl 3 rfl) ?_
          refine lv_iadd hx hb dJ3_compute_448 ?_
          refine w_st (st' := [.int (nI (2 * Y % 2 ^ 32))]) (by rw [nI_add]; exact congrArg (fun z => [Value.int z]) (nI_w (by omega))) ?_
          refine lv_istore (lv' := [(8, .int (nI (2 * Y % 2 ^ 32))), (10, .int (nI (2 * Y / 2 ^ 32))), (7, .int (nI (2 * Qn % 2 ^ 32))), (11, .int (nI (2 * Qn / 2 ^ 32))), (12, .int (nI (Qn / 2 ^ 32))), (9, .int (nI (Qn % 2 ^ 32))), (5, .int (nI r)), (13, .int (Int32.ofInt (rtP v / 2 + 26))), (4, .int (-2147483648))]) hx hb dJ3_compute_449 hl (by decide) rfl (fun ls hl => ?_)
          refine lv_iload hx hb dJ3_compute_451 (lv_at hl 6 rfl) ?_
          refine lv_iconst (v := nI 1) hx hb dJ3_compute_453 (by decide) ?_
          refine lv_iushr (v := nI (r / 2)) hx hb dJ3_compute_454 (by rw [nI_ushr (by omega) (by decide), Nat.pow_one]) ?_
          refine lv_istore (lv' := [(5, .int (nI (r / 2))), (8, .int (nI (2 * Y % 2 ^ 32))), (10, .int (nI (2 * Y / 2 ^ 32))), (7, .int (nI (2 * Qn % 2 ^ 32))), (11, .int (nI (2 * Qn / 2 ^ 32))), (12, .int (nI (Qn / 2 ^ 32))), (9, .int (nI (Qn % 2 ^ 32))), (13, .int (Int32.ofInt (rtP v / 2 + 26))), (4, .int (-2147483648))]) hx hb dJ3_compute_455 hl (by decide) rfl (fun ls hl => ?_)
          refine lv_goto (tgt := 326) hx hb dJ3_compute_457 (by decide) ?_
          rw [hQY] at ih
          exact ih (by omega) (by omega) ls (lv_sub hl [0, 3, 4, 2, 1, 5, 6, 7, 8] rfl)
        have J394 : 2 * Q + r ≤ X → ∀ (ls : Array Slot), lv_has ls 16 [(14, .int (nI (2 * Q / 2 ^ 32))), (6, .int (nI (2 * Q % 2 ^ 32 + r))), (7, .int (nI (2 * (Q + r) % 2 ^ 32))), (11, .int (nI (2 * (Q + r) / 2 ^ 32))), (10, .int (nI (X / 2 ^ 32))), (8, .int (nI (X % 2 ^ 32))), (12, .int (nI (Q / 2 ^ 32))), (9, .int (nI (Q % 2 ^ 32))), (5, .int (nI r)), (13, .int (Int32.ofInt (rtP v / 2 + 26))), (4, .int (-2147483648))] → W p0 l e0 (rm_ 2) s0 mid ([.double v] : List Value).toArray bl0 me0 co0 s0.heap [] 0 0 (MQ bl0 (sQ (some (.double (rtD v)))) ([.double v] : List Value).toArray s0 0 0 (fun _ => False)) (F0 mid 394 ls []) := by
          intro hT ls hl
          rw [if_pos hT] at hS
          obtain ⟨g1, g2, g3⟩ := hlow
          refine lv_iload hx hb dJ3_compute_394 (lv_at hl 4 rfl) ?_
          refine lv_iload hx hb dJ3_compute_396 (lv_at hl 0 rfl) ?_
          refine nn_sub hx hb (by omega) dJ3_compute_398 ?_
          refine lv_istore (lv' := [(10, .int (nI (X / 2 ^ 32 - 2 * Q / 2 ^ 32))), (14, .int (nI (2 * Q / 2 ^ 32))), (6, .int (nI (2 * Q % 2 ^ 32 + r))), (7, .int (nI (2 * (Q + r) % 2 ^ 32))), (11, .int (nI (2 * (Q + r) / 2 ^ 32))), (8, .int (nI (X % 2 ^ 32))), (12, .int (nI (Q / 2 ^ 32))), (9, .int (nI (Q % 2 ^ 32))), (5, .int (nI r)), (13, .int (Int32.ofInt (rtP v / 2 + 26))), (4, .int (-2147483648))]) hx hb dJ3_compute_399 hl (by decide) rfl (fun ls hl => ?_)
          refine lv_iload hx hb dJ3_compute_401 (lv_at hl 5 rfl) ?_
          refine lv_iload hx hb dJ3_compute_403 (lv_at hl 2 rfl) ?_
          refine sC_call (As := [.int (nI (X % 2 ^ 32)), .int (nI (2 * Q % 2 ^ 32 + r))]) (rest := []) S (st_J5_compareUnsigned l (nI (X % 2 ^ 32)) (nI (2 * Q % 2 ^ 32 + r))) q825 q826 q76 q827 hd_J5_compareUnsigned ⟨Nat.le_of_ble_eq_true rfl, Nat.le_of_ble_eq_true rfl⟩ rfl hl.1 rfl (Nat.le_of_ble_eq_true rfl) dJ3_compute_405 ⟨Nat.zero_le _, Nat.zero_le _⟩ ?_
          refine W.eq (g2 := F0 mid 408 ls [.int (cuI (nI (X % 2 ^ 32)) (nI (2 * Q % 2 ^ 32 + r)))]) rfl ?_
          refine lv_if_ge (tgt := 414) hx hb dJ3_compute_408 (by decide) (fun c_408 => ?_) (fun c_408 => ?_)
          · have c3 : ¬ X % 2 ^ 32 < 2 * Q % 2 ^ 32 + r := fun z => Int32.not_lt.mpr c_408 ((cu_lt (by omega) (by omega)).mpr z)
            refine lv_iload hx hb dJ3_compute_414 (lv_at hl 5 rfl) ?_
            refine lv_iload hx hb dJ3_compute_416 (lv_at hl 2 rfl) ?_
            refine lv_isub hx hb dJ3_compute_418 ?_
            refine w_st (st' := [.int (nI ((X - (2 * Q + r)) % 2 ^ 32))]) (by rw [nI_subw (by omega)]; exact congrArg (fun z => [Value.int z]) (nI_w (by omega))) ?_
            refine lv_istore (lv' := [(8, .int (nI ((X - (2 * Q + r)) % 2 ^ 32))), (10, .int (nI (X / 2 ^ 32 - 2 * Q / 2 ^ 32))), (14, .int (nI (2 * Q / 2 ^ 32))), (6, .int (nI (2 * Q % 2 ^ 32 + r))), (7, .int (nI (2 * (Q + r) % 2 ^ 32))), (11, .int (nI (2 * (Q + r) / 2 ^ 32))), (12, .int (nI (Q / 2 ^ 32))), (9, .int (nI (Q % 2 ^ 32))), (5, .int (nI r)), (13, .int (Int32.ofInt (rtP v / 2 + 26))), (4, .int (-2147483648))]) hx hb dJ3_compute_419 hl (by decide) rfl (fun ls hl => ?_)
            refine lv_iload hx hb dJ3_compute_421 (lv_at hl 7 rfl) ?_
            refine lv_iload hx hb dJ3_compute_423 (lv_at hl 8 rfl) ?_
            refine nn_add hx hb dJ3_compute_425 ?_
            refine lv_istore (lv' := [(9, .int (nI ((Q % 2 ^ 32) + r))), (8, .int (nI ((X - (2 * Q + r)) % 2 ^ 32))), (10, .int (nI (X / 2 ^ 32 - 2 * Q / 2 ^ 32))), (14, .int (nI (2 * Q / 2 ^ 32))), (6, .int (nI (2 * Q % 2 ^ 32 + r))), (7, .int (nI (2 * (Q + r) % 2 ^ 32))), (11, .int (nI (2 * (Q + r) / 2 ^ 32))), (12, .int (nI (Q / 2 ^ 32))), (5, .int (nI r)), (13, .int (Int32.ofInt (rtP v / 2 + 26))), (4, .int (-2147483648))]) hx hb dJ3_compute_426 hl (by decide) rfl (fun ls hl => ?_)
            exact J428 (Q + r) (X - (2 * Q + r)) hS (by omega) ls (lv_eq (lv_sub (l' := [(7, .int (nI (2 * (Q + r) % 2 ^ 32))), (11, .int (nI (2 * (Q + r) / 2 ^ 32))), (10, .int (nI (X / 2 ^ 32 - 2 * Q / 2 ^ 32))), (8, .int (nI ((X - (2 * Q + r)) % 2 ^ 32))), (12, .int (nI (Q / 2 ^ 32))), (9, .int (nI ((Q % 2 ^ 32) + r))), (5, .int (nI r)), (13, .int (Int32.ofInt (rtP v / 2 + 26))), (4, .int (-2147483648))]) hl [5, 6, 2, 1, 7, 0, 8, 9, 10] rfl) (by rw [show (X - (2 * Q + r)) / 2 ^ 32 = X / 2 ^ 32 - 2 * Q / 2 ^ 32 by omega, show (Q + r) / 2 ^ 32 = Q / 2 ^ 32 by omega, show (Q + r) % 2 ^ 32 = Q % 2 ^ 32 + r by omega]))
          · have c3 : X % 2 ^ 32 < 2 * Q % 2 ^ 32 + r := (cu_lt (by omega) (by omega)).mp (Int32.not_le.mp c_408)
            refine lv_iinc (v := nI (X / 2 ^ 32 - 2 * Q / 2 ^ 32 - 1)) (lv' := [(10, .int (nI (X / 2 ^ 32 - 2 * Q / 2 ^ 32 - 1))), (14, .int (nI (2 * Q / 2 ^ 32))), (6, .int (nI (2 * Q % 2 ^ 32 + r))), (7, .int (nI (2 * (Q + r) % 2 ^ 32))), (11, .int (nI (2 * (Q + r) / 2 ^ 32))), (8, .int (nI (X % 2 ^ 32))), (12, .int (nI (Q / 2 ^ 32))), (9, .int (nI (Q % 2 ^ 32))), (5, .int (nI r)), (13, .int (Int32.ofInt (rtP v / 2 + 26))), (4, .int (-2147483648))]) hx hb dJ3_compute_411 hl (k := 0) rfl (nI_m1 (by omega)) (by decide) rfl (fun ls hl => ?_)
            refine lv_iload hx hb dJ3_compute_414 (lv_at hl 5 rfl) ?_
            refine lv_iload hx hb dJ3_compute_416 (lv_at hl 2 rfl) ?_
            refine lv_isub hx hb dJ3_compute_418 ?_
            refine w_st (st' := [.int (nI ((X - (2 * Q + r)) % 2 ^ 32))]) (by rw [nI_subw (by omega)]; exact congrArg (fun z => [Value.int z]) (nI_w (by omega))) ?_
            refine lv_istore (lv' := [(8, .int (nI ((X - (2 * Q + r)) % 2 ^ 32))), (10, .int (nI (X / 2 ^ 32 - 2 * Q / 2 ^ 32 - 1))), (14, .int (nI (2 * Q / 2 ^ 32))), (6, .int (nI (2 * Q % 2 ^ 32 + r))), (7, .int (nI (2 * (Q + r) % 2 ^ 32))), (11, .int (nI (2 * (Q + r) / 2 ^ 32))), (12, .int (nI (Q / 2 ^ 32))), (9, .int (nI (Q % 2 ^ 32))), (5, .int (nI r)), (13, .int (Int32.ofInt (rtP v / 2 + 26))), (4, .int (-2147483648))]) hx hb dJ3_compute_419 hl (by decide) rfl (fun ls hl => ?_)
            refine lv_iload hx hb dJ3_compute_421 (lv_at hl 7 rfl) ?_
            refine lv_iload hx hb dJ3_compute_423 (lv_at hl 8 rfl) ?_
            refine nn_add hx hb dJ3_compute_425 ?_
            refine lv_istore (lv' := [(9, .int (nI ((Q % 2 ^ 32) + r))), (8, .int (nI ((X - (2 * Q + r)) % 2 ^ 32))), (10, .int (nI (X / 2 ^ 32 - 2 * Q / 2 ^ 32 - 1))), (14, .int (nI (2 * Q / 2 ^ 32))), (6, .int (nI (2 * Q % 2 ^ 32 + r))), (7, .int (nI (2 * (Q + r) % 2 ^ 32))), (11, .int (nI (2 * (Q + r) / 2 ^ 32))), (12, .int (nI (Q / 2 ^ 32))), (5, .int (nI r)), (13, .int (Int32.ofInt (rtP v / 2 + 26))), (4, .int (-2147483648))]) hx hb dJ3_compute_426 hl (by decide) rfl (fun ls hl => ?_)
            exact J428 (Q + r) (X - (2 * Q + r)) hS (by omega) ls (lv_eq (lv_sub (l' := [(7, .int (nI (2 * (Q + r) % 2 ^ 32))), (11, .int (nI (2 * (Q + r) / 2 ^ 32))), (10, .int (nI (X / 2 ^ 32 - 2 * Q / 2 ^ 32 - 1))), (8, .int (nI ((X - (2 * Q + r)) % 2 ^ 32))), (12, .int (nI (Q / 2 ^ 32))), (9, .int (nI ((Q % 2 ^ 32) + r))), (5, .int (nI r)), (13, .int (Int32.ofInt (rtP v / 2 + 26))), (4, .int (-2147483648))]) hl [5, 6, 2, 1, 7, 0, 8, 9, 10] rfl) (by rw [show (X - (2 * Q + r)) / 2 ^ 32 = X / 2 ^ 32 - 2 * Q / 2 ^ 32 - 1 by omega, show (Q + r) / 2 ^ 32 = Q / 2 ^ 32 by omega, show (Q + r) % 2 ^ 32 = Q % 2 ^ 32 + r by omega]))
        have J366 : 2 * Q + r ≤ X → ∀ (ls : Array Slot), lv_has ls 16 [(14, .int (nI (2 * Q / 2 ^ 32))), (6, .int (nI (2 * Q % 2 ^ 32 + r))), (11, .int (nI (2 * Q / 2 ^ 32))), (10, .int (nI (X / 2 ^ 32))), (8, .int (nI (X % 2 ^ 32))), (12, .int (nI (Q / 2 ^ 32))), (9, .int (nI (Q % 2 ^ 32))), (5, .int (nI r)), (13, .int (Int32.ofInt (rtP v / 2 + 26))), (4, .int (-2147483648))] → W p0 l e0 (rm_ 2) s0 mid ([.double v] : List Value).toArray bl0 me0 co0 s0.heap [] 0 0 (MQ bl0 (sQ (some (.double (rtD v)))) ([.double v] : List Value).toArray s0 0 0 (fun _ => False)) (F0 mid 366 ls []) := by
          intro hT ls hl
          obtain ⟨g1, g2, g3⟩ := hlow
          refine lv_iload hx hb dJ3_compute_366 (lv_at hl 1 rfl) ?_
          refine lv_iload hx hb dJ3_compute_368 (lv_at hl 7 rfl) ?_
          refine lv_iadd hx hb dJ3_compute_370 ?_
          refine w_st (st' := [.int (nI (2 * (Q + r) % 2 ^ 32))]) (by rw [nI_add]; exact congrArg (fun z => [Value.int z]) (nI_w (by omega))) ?_
          refine lv_istore (lv' := [(7, .int (nI (2 * (Q + r) % 2 ^ 32))), (14, .int (nI (2 * Q / 2 ^ 32))), (6, .int (nI (2 * Q % 2 ^ 32 + r))), (11, .int (nI (2 * Q / 2 ^ 32))), (10, .int (nI (X / 2 ^ 32))), (8, .int (nI (X % 2 ^ 32))), (12, .int (nI (Q / 2 ^ 32))), (9, .int (nI (Q % 2 ^ 32))), (5, .int (nI r)), (13, .int (Int32.ofInt (rtP v / 2 + 26))), (4, .int (-2147483648))]) hx hb dJ3_compute_371 hl (by decide) rfl (fun ls hl => ?_)
          refine lv_iload hx hb dJ3_compute_373 (lv_at hl 2 rfl) ?_
          refine lv_iload hx hb dJ3_compute_375 (lv_at hl 10 rfl) ?_
          refine lv_iand hx hb dJ3_compute_377 ?_
          refine w_st (st' := [.int (nI ((2 * Q % 2 ^ 32 + r) / 2 ^ 31 * 2 ^ 31))]) (by rw [nI_top (by omega)]) ?_
          refine lv_iload hx hb dJ3_compute_378 (lv_at hl 10 rfl) ?_
          refine lv_icmp_ne (tgt := 394) hx hb dJ3_compute_380 (by decide) (fun c_380 => ?_) (fun c_380 => ?_)
          · have c3 : 2 * Q % 2 ^ 32 + r < 2 ^ 31 := Classical.byContradiction fun z => c_380 (by rw [nI_sgn, show (2 * Q % 2 ^ 32 + r) / 2 ^ 31 * 2 ^ 31 = 1 * 2 ^ 31 by omega])
            exact J394 hT ls (lv_eq (lv_sub (l' := [(14, .int (nI (2 * Q / 2 ^ 32))), (6, .int (nI (2 * Q % 2 ^ 32 + r))), (7, .int (nI (2 * (Q + r) % 2 ^ 32))), (11, .int (nI (2 * Q / 2 ^ 32))), (10, .int (nI (X / 2 ^ 32))), (8, .int (nI (X % 2 ^ 32))), (12, .int (nI (Q / 2 ^ 32))), (9, .int (nI (Q % 2 ^ 32))), (5, .int (nI r)), (13, .int (Int32.ofInt (rtP v / 2 + 26))), (4, .int (-2147483648))]) hl [1, 2, 0, 3, 4, 5, 6, 7, 8, 9, 10] rfl) (by rw [show 2 * (Q + r) / 2 ^ 32 = 2 * Q / 2 ^ 32 by omega]))
          · have c3 : (2 * Q % 2 ^ 32 + r) / 2 ^ 31 * 2 ^ 31 = 2 ^ 31 := (nI_eqw (by omega) (by decide)).mp (c_380.trans rfl)
            refine lv_iload hx hb dJ3_compute_383 (lv_at hl 0 rfl) ?_
            refine lv_iload hx hb dJ3_compute_385 (lv_at hl 10 rfl) ?_
            refine lv_iand hx hb dJ3_compute_387 ?_
            refine w_st (st' := [.int (nI (2 * (Q + r) % 2 ^ 32 / 2 ^ 31 * 2 ^ 31))]) (by rw [nI_top (Nat.mod_lt _ (by decide))]) ?_
            refine lv_if_ne (tgt := 394) hx hb dJ3_compute_388 (by decide) (fun c_388 => ?_) (fun c_388 => ?_)
            · have c4 : 2 ^ 31 ≤ 2 * (Q + r) % 2 ^ 32 := top_nz c_388
              exact J394 hT ls (lv_eq (lv_sub (l' := [(14, .int (nI (2 * Q / 2 ^ 32))), (6, .int (nI (2 * Q % 2 ^ 32 + r))), (7, .int (nI (2 * (Q + r) % 2 ^ 32))), (11, .int (nI (2 * Q / 2 ^ 32))), (10, .int (nI (X / 2 ^ 32))), (8, .int (nI (X % 2 ^ 32))), (12, .int (nI (Q / 2 ^ 32))), (9, .int (nI (Q % 2 ^ 32))), (5, .int (nI r)), (13, .int (Int32.ofInt (rtP v / 2 + 26))), (4, .int (-2147483648))]) hl [1, 2, 0, 3, 4, 5, 6, 7, 8, 9, 10] rfl) (by rw [show 2 * (Q + r) / 2 ^ 32 = 2 * Q / 2 ^ 32 by omega]))
            · have c4 : 2 * (Q + r) % 2 ^ 32 / 2 ^ 31 * 2 ^ 31 = 0 := (nI_eqw (by omega) (by decide)).mp (c_388.trans rfl)
              refine lv_iinc (v := nI ((2 * Q / 2 ^ 32) + 1)) (lv' := [(11, .int (nI ((2 * Q / 2 ^ 32) + 1))), (7, .int (nI (2 * (Q + r) % 2 ^ 32))), (14, .int (nI (2 * Q / 2 ^ 32))), (6, .int (nI (2 * Q % 2 ^ 32 + r))), (10, .int (nI (X / 2 ^ 32))), (8, .int (nI (X % 2 ^ 32))), (12, .int (nI (Q / 2 ^ 32))), (9, .int (nI (Q % 2 ^ 32))), (5, .int (nI r)), (13, .int (Int32.ofInt (rtP v / 2 + 26))), (4, .int (-2147483648))]) hx hb dJ3_compute_391 hl (k := 3) rfl (nI_1 _) (by decide) rfl (fun ls hl => ?_)
              exact J394 hT ls (lv_eq (lv_sub (l' := [(14, .int (nI (2 * Q / 2 ^ 32))), (6, .int (nI (2 * Q % 2 ^ 32 + r))), (7, .int (nI (2 * (Q + r) % 2 ^ 32))), (11, .int (nI ((2 * Q / 2 ^ 32) + 1))), (10, .int (nI (X / 2 ^ 32))), (8, .int (nI (X % 2 ^ 32))), (12, .int (nI (Q / 2 ^ 32))), (9, .int (nI (Q % 2 ^ 32))), (5, .int (nI r)), (13, .int (Int32.ofInt (rtP v / 2 + 26))), (4, .int (-2147483648))]) hl [2, 3, 1, 0, 4, 5, 6, 7, 8, 9, 10] rfl) (by rw [show 2 * (Q + r) / 2 ^ 32 = 2 * Q / 2 ^ 32 + 1 by omega]))
        obtain ⟨g1, g2, g3⟩ := id hlow
        refine lv_iload hx hb dJ3_compute_331 (lv_at hl 1 rfl) ?_
        refine lv_iload hx hb dJ3_compute_333 (lv_at hl 0 rfl) ?_
        refine nn_add hx hb dJ3_compute_335 ?_
        refine lv_istore (lv' := [(6, .int (nI ((2 * Q % 2 ^ 32) + r))), (5, .int (nI r)), (7, .int (nI (2 * Q % 2 ^ 32))), (11, .int (nI (2 * Q / 2 ^ 32))), (10, .int (nI (X / 2 ^ 32))), (8, .int (nI (X % 2 ^ 32))), (12, .int (nI (Q / 2 ^ 32))), (9, .int (nI (Q % 2 ^ 32))), (13, .int (Int32.ofInt (rtP v / 2 + 26))), (4, .int (-2147483648))]) hx hb dJ3_compute_336 hl (by decide) rfl (fun ls hl => ?_)
        refine lv_iload hx hb dJ3_compute_338 (lv_at hl 3 rfl) ?_
        refine lv_istore (lv' := [(14, .int (nI (2 * Q / 2 ^ 32))), (6, .int (nI ((2 * Q % 2 ^ 32) + r))), (5, .int (nI r)), (7, .int (nI (2 * Q % 2 ^ 32))), (11, .int (nI (2 * Q / 2 ^ 32))), (10, .int (nI (X / 2 ^ 32))), (8, .int (nI (X % 2 ^ 32))), (12, .int (nI (Q / 2 ^ 32))), (9, .int (nI (Q % 2 ^ 32))), (13, .int (Int32.ofInt (rtP v / 2 + 26))), (4, .int (-2147483648))]) hx hb dJ3_compute_340 hl (by decide) rfl (fun ls hl => ?_)
        refine lv_iload hx hb dJ3_compute_342 (lv_at hl 0 rfl) ?_
        refine lv_iload hx hb dJ3_compute_344 (lv_at hl 5 rfl) ?_
        refine nn_clt (tgt := 366) hx hb (by omega) (by omega) dJ3_compute_346 (by decide) (fun c_346 => ?_) (fun c_346 => ?_)
        · exact J366 (by omega) ls (lv_eq (lv_sub (l' := [(14, .int (nI (2 * Q / 2 ^ 32))), (6, .int (nI ((2 * Q % 2 ^ 32) + r))), (11, .int (nI (2 * Q / 2 ^ 32))), (10, .int (nI (X / 2 ^ 32))), (8, .int (nI (X % 2 ^ 32))), (12, .int (nI (Q / 2 ^ 32))), (9, .int (nI (Q % 2 ^ 32))), (5, .int (nI r)), (13, .int (Int32.ofInt (rtP v / 2 + 26))), (4, .int (-2147483648))]) hl [0, 1, 4, 5, 6, 7, 8, 2, 9, 10] rfl) (by rfl))
        · refine lv_iload hx hb dJ3_compute_349 (lv_at hl 0 rfl) ?_
          refine lv_iload hx hb dJ3_compute_351 (lv_at hl 5 rfl) ?_
          refine nn_cne (tgt := 428) hx hb (by omega) (by omega) dJ3_compute_353 (by decide) (fun c_353 => ?_) (fun c_353 => ?_)
          · rw [if_neg (by omega)] at hS
            exact J428 Q X hS (by omega) ls (lv_sub hl [3, 4, 5, 6, 7, 8, 2, 9, 10] rfl)
          · refine lv_iload hx hb dJ3_compute_356 (lv_at hl 1 rfl) ?_
            refine lv_iload hx hb dJ3_compute_358 (lv_at hl 6 rfl) ?_
            refine sC_call (As := [.int (nI ((2 * Q % 2 ^ 32) + r)), .int (nI (X % 2 ^ 32))]) (rest := []) S (st_J5_compareUnsigned l (nI ((2 * Q % 2 ^ 32) + r)) (nI (X % 2 ^ 32))) q825 q826 q76 q827 hd_J5_compareUnsigned ⟨Nat.le_of_ble_eq_true rfl, Nat.le_of_ble_eq_true rfl⟩ rfl hl.1 rfl (Nat.le_of_ble_eq_true rfl) dJ3_compute_360 ⟨Nat.zero_le _, Nat.zero_le _⟩ ?_
            refine W.eq (g2 := F0 mid 363 ls [.int (cuI (nI ((2 * Q % 2 ^ 32) + r)) (nI (X % 2 ^ 32)))]) rfl ?_
            refine lv_if_gt (tgt := 428) hx hb dJ3_compute_363 (by decide) (fun c_363 => ?_) (fun c_363 => ?_)
            · rw [cu_gt (by omega) (by omega)] at c_363
              rw [if_neg (by omega)] at hS
              exact J428 Q X hS (by omega) ls (lv_sub hl [3, 4, 5, 6, 7, 8, 2, 9, 10] rfl)
            · rw [cu_gt (by omega) (by omega)] at c_363
              exact J366 (by omega) ls (lv_eq (lv_sub (l' := [(14, .int (nI (2 * Q / 2 ^ 32))), (6, .int (nI ((2 * Q % 2 ^ 32) + r))), (11, .int (nI (2 * Q / 2 ^ 32))), (10, .int (nI (X / 2 ^ 32))), (8, .int (nI (X % 2 ^ 32))), (12, .int (nI (Q / 2 ^ 32))), (9, .int (nI (Q % 2 ^ 32))), (5, .int (nI r)), (13, .int (Int32.ofInt (rtP v / 2 + 26))), (4, .int (-2147483648))]) hl [0, 1, 4, 5, 6, 7, 8, 2, 9, 10] rfl) (by rfl))
  have L1 : fx_eq v FP.dconst0 = false → ∀ (n_ a : Nat), a ≤ 22 → 22 < a + n_ → ∀ (ls : Array Slot), lv_has ls 16 [(5, .int (nI (2 ^ (22 - a) / 2))), (11, .int (nI (2 * (fdQ (rtM v) a).1 / 2 ^ 32))), (12, .int (nI ((fdQ (rtM v) a).1 / 2 ^ 32))), (10, .int (nI ((fdQ (rtM v) a).2 / 2 ^ 32))), (8, .int (nI ((fdQ (rtM v) a).2 % 2 ^ 32))), (7, .int (nI 0)), (9, .int (nI 0)), (13, .int (Int32.ofInt (rtP v / 2 + 26))), (4, .int (-2147483648))] → W p0 l e0 (rm_ 2) s0 mid ([.double v] : List Value).toArray bl0 me0 co0 s0.heap [] 0 0 (MQ bl0 (sQ (some (.double (rtD v)))) ([.double v] : List Value).toArray s0 0 0 (fun _ => False)) (F0 mid 250 ls []) := by
    intro h0 n_
    obtain ⟨va, vb⟩ := rtOK_p hv h0
    obtain ⟨m1, m2⟩ := rtM_rng va vb
    induction n_ with
    | zero => intro a h1_ h2_; exact absurd h2_ (by omega)
    | succ n_ ih =>
      intro a h1_ h2_ ls hl
      refine lv_iload hx hb dJ3_compute_250 (lv_at hl 0 rfl) ?_
      have ih := ih (a + 1)
      refine nz_eq (tgt := 322) hx hb (by have := pw_21 (a := a); omega) dJ3_compute_252 (by decide) (fun c_252 => ?_) (fun c_252 => ?_)
      · have ha22 : a = 22 := pw_z1 c_252 h1_
        subst ha22
        obtain ⟨⟨k_, hk_⟩, i1_, i2_⟩ := fd_inv m2 rfl 22 (by omega)
        clear i1_ i2_
        have hk_ : (fdQ (rtM v) 22).1 = k_ * 2 ^ 32 := hk_
        have z7 : 2 * (fdQ (rtM v) 22).1 % 2 ^ 32 = 0 := by omega
        have z9 : (fdQ (rtM v) 22).1 % 2 ^ 32 = 0 := by omega
        have hL2 := L2 h0 33 0 (by omega) (by omega)
        simp only [Nat.add_zero] at hL2
        refine lv_iload hx hb dJ3_compute_322 (lv_at hl 8 rfl) ?_
        refine w_st (st' := [.int (nI (2 ^ (32 - 0) / 2))]) (by rfl) ?_
        refine lv_istore (lv' := [(5, .int (nI (2 ^ (32 - 0) / 2))), (11, .int (nI (2 * (fdQ (rtM v) 22).1 / 2 ^ 32))), (12, .int (nI ((fdQ (rtM v) 22).1 / 2 ^ 32))), (10, .int (nI ((fdQ (rtM v) 22).2 / 2 ^ 32))), (8, .int (nI ((fdQ (rtM v) 22).2 % 2 ^ 32))), (7, .int (nI 0)), (9, .int (nI 0)), (13, .int (Int32.ofInt (rtP v / 2 + 26))), (4, .int (-2147483648))]) hx hb dJ3_compute_324 hl (by decide) rfl (fun ls hl => ?_)
        exact hL2 ls (lv_eq (lv_sub (l' := [(5, .int (nI (2 ^ (32 - 0) / 2))), (7, .int (nI 0)), (11, .int (nI (2 * (fdQ (rtM v) 22).1 / 2 ^ 32))), (10, .int (nI ((fdQ (rtM v) 22).2 / 2 ^ 32))), (8, .int (nI ((fdQ (rtM v) 22).2 % 2 ^ 32))), (12, .int (nI ((fdQ (rtM v) 22).1 / 2 ^ 32))), (9, .int (nI 0)), (13, .int (Int32.ofInt (rtP v / 2 + 26))), (4, .int (-2147483648))]) hl [0, 5, 1, 3, 4, 2, 6, 7, 8] rfl) (by rw [z7, z9]))
      · have ha21 : a ≤ 21 := pw_nz1 h1_ c_252
        obtain ⟨⟨k_, hk_⟩, i1_, i2_⟩ := fd_inv m2 rfl a (by omega)
        clear i1_ i2_
        obtain ⟨b1, b2⟩ := fd_b m2 (show a ≤ 54 by omega)
        have e53 : 2 ^ (53 - a) = 2 ^ (22 - a) / 2 * 2 ^ 32 := by rw [show 53 - a = 21 - a + 32 by omega, Nat.pow_add, show 22 - a = 21 - a + 1 by omega, Nat.pow_succ]; omega
        have e54 : 2 ^ (54 - a) = 2 * (2 ^ (22 - a) / 2 * 2 ^ 32) := by rw [← e53, ← Nat.pow_succ']; congr 1; omega
        have eR2 : 2 ^ (22 - (a + 1)) / 2 = 2 ^ (22 - a) / 2 / 2 := by rw [show 22 - a = 22 - (a + 1) + 1 by omega, Nat.pow_succ]; omega
        have hS : fdQ (rtM v) (a + 1) = fdS a (fdQ (rtM v) a) := fdQ_s (rtM v) a
        unfold fdS at hS
        rw [e53] at hS
        rw [e54] at b1 hk_
        rw [eR2] at ih
        have hpb := pw_21 (a := a)
        have hdv : (fdQ (rtM v) a).1 % 2 ^ 32 = 0 := by rw [hk_, ← Nat.mul_assoc, ← Nat.mul_assoc]; exact Nat.mul_mod_left _ _
        generalize (fdQ (rtM v) a).1 = Q at hl b1 hS hdv hk_
        generalize (fdQ (rtM v) a).2 = X at hl b2 hS
        clear hk_
        generalize 2 ^ (22 - a) / 2 = r at hl b1 hS ih hpb
        clear e54 e53 eR2 c_252
        have J290 : ∀ (Qn Y : Nat), fdQ (rtM v) (a + 1) = (Qn, 2 * Y) → Y < 2 ^ 56 → ∀ (ls : Array Slot), lv_has ls 16 [(11, .int (nI (2 * Qn / 2 ^ 32))), (12, .int (nI (Qn / 2 ^ 32))), (10, .int (nI (Y / 2 ^ 32))), (8, .int (nI (Y % 2 ^ 32))), (5, .int (nI r)), (7, .int (nI 0)), (9, .int (nI 0)), (13, .int (Int32.ofInt (rtP v / 2 + 26))), (4, .int (-2147483648))] → W p0 l e0 (rm_ 2) s0 mid ([.double v] : List Value).toArray bl0 me0 co0 s0.heap [] 0 0 (MQ bl0 (sQ (some (.double (rtD v)))) ([.double v] : List Value).toArray s0 0 0 (fun _ => False)) (F0 mid 290 ls []) := by
          intro Qn Y hQY hY ls hl
          refine lv_iload hx hb dJ3_compute_290 (lv_at hl 2 rfl) ?_
          refine lv_iload hx hb dJ3_compute_292 (lv_at hl 2 rfl) ?_
          refine lv_iload hx hb dJ3_compute_294 (lv_at hl 3 rfl) ?_
          refine lv_iload hx hb dJ3_compute_296 (lv_at hl 8 rfl) ?_
          refine lv_iand hx hb dJ3_compute_298 ?_
          refine w_st (st' := [.int (nI (Y % 2 ^ 32 / 2 ^ 31 * 2 ^ 31)), .int (nI (Y / 2 ^ 32)), .int (nI (Y / 2 ^ 32))]) (by rw [nI_top (Nat.mod_lt _ (by decide))]) ?_
          refine lv_bipush (v := nI 31) hx hb dJ3_compute_299 (by decide) ?_
          refine lv_iushr (v := nI (Y % 2 ^ 32 / 2 ^ 31)) hx hb dJ3_compute_301 (by rw [nI_ushr (by omega) (by decide)]; exact congrArg nI (by omega)) ?_
          refine nn_add hx hb dJ3_compute_302 ?_
          refine lv_iadd hx hb dJ3_compute_303 ?_
          refine w_st (st' := [.int (nI (2 * Y / 2 ^ 32))]) (by rw [nI_add]; exact congrArg (fun z => [Value.int (nI z)]) (by omega)) ?_
          refine lv_istore (lv' := [(10, .int (nI (2 * Y / 2 ^ 32))), (11, .int (nI (2 * Qn / 2 ^ 32))), (12, .int (nI (Qn / 2 ^ 32))), (8, .int (nI (Y % 2 ^ 32))), (5, .int (nI r)), (7, .int (nI 0)), (9, .int (nI 0)), (13, .int (Int32.ofInt (rtP v / 2 + 26))), (4, .int (-2147483648))]) hx hb dJ3_compute_304 hl (by decide) rfl (fun ls hl => ?_)
          refine lv_iload hx hb dJ3_compute_306 (lv_at hl 3 rfl) ?_
          refine lv_iload hx hb dJ3_compute_308 (lv_at hl 3 rfl) ?_
          refine lv_iadd hx hb dJ3_compute_310 ?_
          refine w_st (st' := [.int (nI (2 * Y % 2 ^ 32))]) (by rw [nI_add]; exact congrArg (fun z => [Value.int z]) (nI_w (by omega))) ?_
          refine lv_istore (lv' := [(8, .int (nI (2 * Y % 2 ^ 32))), (10, .int (nI (2 * Y / 2 ^ 32))), (11, .int (nI (2 * Qn / 2 ^ 32))), (12, .int (nI (Qn / 2 ^ 32))), (5, .int (nI r)), (7, .int (nI 0)), (9, .int (nI 0)), (13, .int (Int32.ofInt (rtP v / 2 + 26))), (4, .int (-2147483648))]) hx hb dJ3_compute_311 hl (by decide) rfl (fun ls hl => ?_)
          refine lv_iload hx hb dJ3_compute_313 (lv_at hl 4 rfl) ?_
          refine lv_iconst (v := nI 1) hx hb dJ3_compute_315 (by decide) ?_
          refine lv_iushr (v := nI (r / 2)) hx hb dJ3_compute_316 (by rw [nI_ushr (by omega) (by decide), Nat.pow_one]) ?_
          refine lv_istore (lv' := [(5, .int (nI (r / 2))), (8, .int (nI (2 * Y % 2 ^ 32))), (10, .int (nI (2 * Y / 2 ^ 32))), (11, .int (nI (2 * Qn / 2 ^ 32))), (12, .int (nI (Qn / 2 ^ 32))), (7, .int (nI 0)), (9, .int (nI 0)), (13, .int (Int32.ofInt (rtP v / 2 + 26))), (4, .int (-2147483648))]) hx hb dJ3_compute_317 hl (by decide) rfl (fun ls hl => ?_)
          refine lv_goto (tgt := 250) hx hb dJ3_compute_319 (by decide) ?_
          rw [hQY] at ih
          exact ih (by omega) (by omega) ls (lv_sub hl [0, 3, 4, 2, 1, 5, 6, 7, 8] rfl)
        refine lv_iload hx hb dJ3_compute_255 (lv_at hl 1 rfl) ?_
        refine lv_iload hx hb dJ3_compute_257 (lv_at hl 0 rfl) ?_
        refine nn_add hx hb dJ3_compute_259 ?_
        refine lv_istore (lv' := [(14, .int (nI ((2 * Q / 2 ^ 32) + r))), (5, .int (nI r)), (11, .int (nI (2 * Q / 2 ^ 32))), (12, .int (nI (Q / 2 ^ 32))), (10, .int (nI (X / 2 ^ 32))), (8, .int (nI (X % 2 ^ 32))), (7, .int (nI 0)), (9, .int (nI 0)), (13, .int (Int32.ofInt (rtP v / 2 + 26))), (4, .int (-2147483648))]) hx hb dJ3_compute_260 hl (by decide) rfl (fun ls hl => ?_)
        refine lv_iload hx hb dJ3_compute_262 (lv_at hl 0 rfl) ?_
        refine lv_iload hx hb dJ3_compute_264 (lv_at hl 4 rfl) ?_
        refine nn_cgt (tgt := 290) hx hb (by omega) (by omega) dJ3_compute_266 (by decide) (fun c_266 => ?_) (fun c_266 => ?_)
        · rw [if_neg (by omega)] at hS
          exact J290 Q X hS (by omega) ls (lv_sub hl [2, 3, 4, 5, 1, 6, 7, 8, 9] rfl)
        · refine lv_iload hx hb dJ3_compute_269 (lv_at hl 0 rfl) ?_
          refine lv_iload hx hb dJ3_compute_271 (lv_at hl 1 rfl) ?_
          refine nn_add hx hb dJ3_compute_273 ?_
          refine lv_istore (lv' := [(11, .int (nI (((2 * Q / 2 ^ 32) + r) + r))), (14, .int (nI ((2 * Q / 2 ^ 32) + r))), (5, .int (nI r)), (12, .int (nI (Q / 2 ^ 32))), (10, .int (nI (X / 2 ^ 32))), (8, .int (nI (X % 2 ^ 32))), (7, .int (nI 0)), (9, .int (nI 0)), (13, .int (Int32.ofInt (rtP v / 2 + 26))), (4, .int (-2147483648))]) hx hb dJ3_compute_274 hl (by decide) rfl (fun ls hl => ?_)
          refine lv_iload hx hb dJ3_compute_276 (lv_at hl 4 rfl) ?_
          refine lv_iload hx hb dJ3_compute_278 (lv_at hl 1 rfl) ?_
          refine nn_sub hx hb (by omega) dJ3_compute_280 ?_
          refine lv_istore (lv' := [(10, .int (nI (X / 2 ^ 32 - (2 * Q / 2 ^ 32 + r)))), (11, .int (nI (((2 * Q / 2 ^ 32) + r) + r))), (14, .int (nI ((2 * Q / 2 ^ 32) + r))), (5, .int (nI r)), (12, .int (nI (Q / 2 ^ 32))), (8, .int (nI (X % 2 ^ 32))), (7, .int (nI 0)), (9, .int (nI 0)), (13, .int (Int32.ofInt (rtP v / 2 + 26))), (4, .int (-2147483648))]) hx hb dJ3_compute_281 hl (by decide) rfl (fun ls hl => ?_)
          refine lv_iload hx hb dJ3_compute_283 (lv_at hl 4 rfl) ?_
          refine lv_iload hx hb dJ3_compute_285 (lv_at hl 3 rfl) ?_
          refine nn_add hx hb dJ3_compute_287 ?_
          refine lv_istore (lv' := [(12, .int (nI ((Q / 2 ^ 32) + r))), (10, .int (nI (X / 2 ^ 32 - (2 * Q / 2 ^ 32 + r)))), (11, .int (nI (((2 * Q / 2 ^ 32) + r) + r))), (14, .int (nI ((2 * Q / 2 ^ 32) + r))), (5, .int (nI r)), (8, .int (nI (X % 2 ^ 32))), (7, .int (nI 0)), (9, .int (nI 0)), (13, .int (Int32.ofInt (rtP v / 2 + 26))), (4, .int (-2147483648))]) hx hb dJ3_compute_288 hl (by decide) rfl (fun ls hl => ?_)
          rw [if_pos (by omega)] at hS
          exact J290 (Q + r * 2 ^ 32) (X - (2 * Q + r * 2 ^ 32)) hS (by omega) ls (lv_eq (lv_sub (l' := [(11, .int (nI (((2 * Q / 2 ^ 32) + r) + r))), (12, .int (nI ((Q / 2 ^ 32) + r))), (10, .int (nI (X / 2 ^ 32 - (2 * Q / 2 ^ 32 + r)))), (8, .int (nI (X % 2 ^ 32))), (5, .int (nI r)), (7, .int (nI 0)), (9, .int (nI 0)), (13, .int (Int32.ofInt (rtP v / 2 + 26))), (4, .int (-2147483648))]) hl [2, 0, 1, 5, 4, 6, 7, 8, 9] rfl) (by rw [show 2 * (Q + r * 2 ^ 32) / 2 ^ 32 = 2 * Q / 2 ^ 32 + r + r by omega, show (Q + r * 2 ^ 32) / 2 ^ 32 = Q / 2 ^ 32 + r by omega, show (X - (2 * Q + r * 2 ^ 32)) / 2 ^ 32 = X / 2 ^ 32 - (2 * Q / 2 ^ 32 + r) by omega, show (X - (2 * Q + r * 2 ^ 32)) % 2 ^ 32 = X % 2 ^ 32 by omega]))
  have J205 : fx_eq v FP.dconst0 = false → ∀ (ls : Array Slot), lv_has ls 16 [(10, .int (nI (rtM v / 2 ^ 32))), (8, .int (nI (rtM v % 2 ^ 32))), (13, .int (Int32.ofInt (rtE v + 52))), (4, .int (-2147483648))] → W p0 l e0 (rm_ 2) s0 mid ([.double v] : List Value).toArray bl0 me0 co0 s0.heap [] 0 0 (MQ bl0 (sQ (some (.double (rtD v)))) ([.double v] : List Value).toArray s0 0 0 (fun _ => False)) (F0 mid 205 ls []) := by
    intro h0 ls hl
    obtain ⟨va, vb⟩ := rtOK_p hv h0
    obtain ⟨m1, m2⟩ := rtM_rng va vb
    obtain ⟨e1, e2⟩ := rtE_rng vb va
    refine lv_iload hx hb dJ3_compute_205 (lv_at hl 2 rfl) ?_
    refine lv_iconst (v := nI 1) hx hb dJ3_compute_207 (by decide) ?_
    refine lv_ishr hx hb dJ3_compute_208 ?_
    refine w_st (st' := [.int (Int32.ofInt (rtP v / 2 + 26))]) (by rw [iZ_shr1 (by omega) (by omega), show (rtE v + 52) / 2 = rtP v / 2 + 26 by unfold rtP; split <;> omega]) ?_
    refine lv_istore (lv' := [(13, .int (Int32.ofInt (rtP v / 2 + 26))), (10, .int (nI (rtM v / 2 ^ 32))), (8, .int (nI (rtM v % 2 ^ 32))), (4, .int (-2147483648))]) hx hb dJ3_compute_209 hl (by decide) rfl (fun ls hl => ?_)
    refine lv_iload hx hb dJ3_compute_211 (lv_at hl 1 rfl) ?_
    refine lv_iload hx hb dJ3_compute_213 (lv_at hl 1 rfl) ?_
    refine lv_iload hx hb dJ3_compute_215 (lv_at hl 2 rfl) ?_
    refine lv_iload hx hb dJ3_compute_217 (lv_at hl 3 rfl) ?_
    refine lv_iand hx hb dJ3_compute_219 ?_
    refine w_st (st' := [.int (nI (rtM v % 2 ^ 32 / 2 ^ 31 * 2 ^ 31)), .int (nI (rtM v / 2 ^ 32)), .int (nI (rtM v / 2 ^ 32))]) (by rw [nI_top (Nat.mod_lt _ (by decide))]) ?_
    refine lv_bipush (v := nI 31) hx hb dJ3_compute_220 (by decide) ?_
    refine lv_iushr (v := nI (rtM v % 2 ^ 32 / 2 ^ 31)) hx hb dJ3_compute_222 (by rw [nI_ushr (by omega) (by decide)]; exact congrArg nI (by omega)) ?_
    refine nn_add hx hb dJ3_compute_223 ?_
    refine lv_iadd hx hb dJ3_compute_224 ?_
    refine w_st (st' := [.int (nI (2 * rtM v / 2 ^ 32))]) (by rw [nI_add]; exact congrArg (fun z => [Value.int (nI z)]) (by omega)) ?_
    refine lv_istore (lv' := [(10, .int (nI (2 * rtM v / 2 ^ 32))), (13, .int (Int32.ofInt (rtP v / 2 + 26))), (8, .int (nI (rtM v % 2 ^ 32))), (4, .int (-2147483648))]) hx hb dJ3_compute_225 hl (by decide) rfl (fun ls hl => ?_)
    refine lv_iload hx hb dJ3_compute_227 (lv_at hl 2 rfl) ?_
    refine lv_iload hx hb dJ3_compute_229 (lv_at hl 2 rfl) ?_
    refine lv_iadd hx hb dJ3_compute_231 ?_
    refine w_st (st' := [.int (nI (2 * rtM v % 2 ^ 32))]) (by rw [nI_add]; exact congrArg (fun z => [Value.int z]) (nI_w (by omega))) ?_
    refine lv_istore (lv' := [(8, .int (nI (2 * rtM v % 2 ^ 32))), (10, .int (nI (2 * rtM v / 2 ^ 32))), (13, .int (Int32.ofInt (rtP v / 2 + 26))), (4, .int (-2147483648))]) hx hb dJ3_compute_232 hl (by decide) rfl (fun ls hl => ?_)
    refine lv_iconst (v := nI 0) hx hb dJ3_compute_234 (by decide) ?_
    refine lv_dup hx hb dJ3_compute_235 rfl ?_
    refine lv_istore (lv' := [(7, .int (nI 0)), (8, .int (nI (2 * rtM v % 2 ^ 32))), (10, .int (nI (2 * rtM v / 2 ^ 32))), (13, .int (Int32.ofInt (rtP v / 2 + 26))), (4, .int (-2147483648))]) hx hb dJ3_compute_236 hl (by decide) rfl (fun ls hl => ?_)
    refine lv_dup hx hb dJ3_compute_238 rfl ?_
    refine lv_istore (lv' := [(11, .int (nI 0)), (7, .int (nI 0)), (8, .int (nI (2 * rtM v % 2 ^ 32))), (10, .int (nI (2 * rtM v / 2 ^ 32))), (13, .int (Int32.ofInt (rtP v / 2 + 26))), (4, .int (-2147483648))]) hx hb dJ3_compute_239 hl (by decide) rfl (fun ls hl => ?_)
    refine lv_dup hx hb dJ3_compute_241 rfl ?_
    refine lv_istore (lv' := [(9, .int (nI 0)), (11, .int (nI 0)), (7, .int (nI 0)), (8, .int (nI (2 * rtM v % 2 ^ 32))), (10, .int (nI (2 * rtM v / 2 ^ 32))), (13, .int (Int32.ofInt (rtP v / 2 + 26))), (4, .int (-2147483648))]) hx hb dJ3_compute_242 hl (by decide) rfl (fun ls hl => ?_)
    refine lv_istore (lv' := [(12, .int (nI 0)), (9, .int (nI 0)), (11, .int (nI 0)), (7, .int (nI 0)), (8, .int (nI (2 * rtM v % 2 ^ 32))), (10, .int (nI (2 * rtM v / 2 ^ 32))), (13, .int (Int32.ofInt (rtP v / 2 + 26))), (4, .int (-2147483648))]) hx hb dJ3_compute_244 hl (by decide) rfl (fun ls hl => ?_)
    refine lv_ldc hx hb hown (hts _ q824) dJ3_compute_246 ?_
    refine w_st (st' := [.int (nI 2097152)]) (by rfl) ?_
    refine lv_istore (lv' := [(5, .int (nI 2097152)), (12, .int (nI 0)), (9, .int (nI 0)), (11, .int (nI 0)), (7, .int (nI 0)), (8, .int (nI (2 * rtM v % 2 ^ 32))), (10, .int (nI (2 * rtM v / 2 ^ 32))), (13, .int (Int32.ofInt (rtP v / 2 + 26))), (4, .int (-2147483648))]) hx hb dJ3_compute_248 hl (by decide) rfl (fun ls hl => ?_)
    have hL1 := L1 h0 23 0 (by omega) (by omega)
    rw [show fdQ (rtM v) 0 = (0, 2 * rtM v) from rfl] at hL1
    simp only [Nat.mul_zero, Nat.zero_div] at hL1
    exact hL1 ls (lv_eq (lv_sub (l' := [(5, .int (nI 2097152)), (11, .int (nI 0)), (12, .int (nI 0)), (10, .int (nI (2 * rtM v / 2 ^ 32))), (8, .int (nI (2 * rtM v % 2 ^ 32))), (7, .int (nI 0)), (9, .int (nI 0)), (13, .int (Int32.ofInt (rtP v / 2 + 26))), (4, .int (-2147483648))]) hl [0, 3, 1, 6, 5, 4, 2, 7, 8] rfl) (by rw [show 2 ^ (22 - 0) / 2 = 2097152 from by decide]))
  have J175 : fx_eq v FP.dconst0 = false → ∀ (ls : Array Slot), lv_has ls 16 [(10, .int (nI (rtM0 v / 2 ^ 32))), (8, .int (nI (rtM0 v % 2 ^ 32))), (13, .int (Int32.ofInt (rtE v + 52))), (4, .int (-2147483648))] → W p0 l e0 (rm_ 2) s0 mid ([.double v] : List Value).toArray bl0 me0 co0 s0.heap [] 0 0 (MQ bl0 (sQ (some (.double (rtD v)))) ([.double v] : List Value).toArray s0 0 0 (fun _ => False)) (F0 mid 175 ls []) := by
    intro h0 ls hl
    obtain ⟨va, vb⟩ := rtOK_p hv h0
    obtain ⟨m1, m2⟩ := rtM_rng va vb
    obtain ⟨n1, n2⟩ := rtM0_rng va vb
    obtain ⟨e1, e2⟩ := rtE_rng vb va
    refine lv_iload hx hb dJ3_compute_175 (lv_at hl 2 rfl) ?_
    refine lv_iconst (v := nI 1) hx hb dJ3_compute_177 (by decide) ?_
    refine lv_iand hx hb dJ3_compute_178 ?_
    refine lv_if_eq (tgt := 205) hx hb dJ3_compute_179 (by decide) (fun c_179 => ?_) (fun c_179 => ?_)
    · rw [iZ_and1 (by omega) (by omega)] at c_179
      exact J205 h0 ls (lv_eq (lv_sub (l' := [(10, .int (nI (rtM0 v / 2 ^ 32))), (8, .int (nI (rtM0 v % 2 ^ 32))), (13, .int (Int32.ofInt (rtE v + 52))), (4, .int (-2147483648))]) hl [0, 1, 2, 3] rfl) (by unfold rtM; rw [if_pos (by omega)]))
    · rw [iZ_and1 (by omega) (by omega)] at c_179
      refine lv_iload hx hb dJ3_compute_182 (lv_at hl 0 rfl) ?_
      refine lv_iload hx hb dJ3_compute_184 (lv_at hl 0 rfl) ?_
      refine lv_iload hx hb dJ3_compute_186 (lv_at hl 1 rfl) ?_
      refine lv_iload hx hb dJ3_compute_188 (lv_at hl 3 rfl) ?_
      refine lv_iand hx hb dJ3_compute_190 ?_
      refine w_st (st' := [.int (nI (rtM0 v % 2 ^ 32 / 2 ^ 31 * 2 ^ 31)), .int (nI (rtM0 v / 2 ^ 32)), .int (nI (rtM0 v / 2 ^ 32))]) (by rw [nI_top (Nat.mod_lt _ (by decide))]) ?_
      refine lv_bipush (v := nI 31) hx hb dJ3_compute_191 (by decide) ?_
      refine lv_iushr (v := nI (rtM0 v % 2 ^ 32 / 2 ^ 31)) hx hb dJ3_compute_193 (by rw [nI_ushr (by omega) (by decide)]; exact congrArg nI (by omega)) ?_
      refine nn_add hx hb dJ3_compute_194 ?_
      refine lv_iadd hx hb dJ3_compute_195 ?_
      refine w_st (st' := [.int (nI (2 * rtM0 v / 2 ^ 32))]) (by rw [nI_add]; exact congrArg (fun z => [Value.int (nI z)]) (by omega)) ?_
      refine lv_istore (lv' := [(10, .int (nI (2 * rtM0 v / 2 ^ 32))), (8, .int (nI (rtM0 v % 2 ^ 32))), (13, .int (Int32.ofInt (rtE v + 52))), (4, .int (-2147483648))]) hx hb dJ3_compute_196 hl (by decide) rfl (fun ls hl => ?_)
      refine lv_iload hx hb dJ3_compute_198 (lv_at hl 1 rfl) ?_
      refine lv_iload hx hb dJ3_compute_200 (lv_at hl 1 rfl) ?_
      refine lv_iadd hx hb dJ3_compute_202 ?_
      refine w_st (st' := [.int (nI (2 * rtM0 v % 2 ^ 32))]) (by rw [nI_add]; exact congrArg (fun z => [Value.int z]) (nI_w (by omega))) ?_
      refine lv_istore (lv' := [(8, .int (nI (2 * rtM0 v % 2 ^ 32))), (10, .int (nI (2 * rtM0 v / 2 ^ 32))), (13, .int (Int32.ofInt (rtE v + 52))), (4, .int (-2147483648))]) hx hb dJ3_compute_203 hl (by decide) rfl (fun ls hl => ?_)
      exact J205 h0 ls (lv_eq (lv_sub (l' := [(10, .int (nI (2 * rtM0 v / 2 ^ 32))), (8, .int (nI (2 * rtM0 v % 2 ^ 32))), (13, .int (Int32.ofInt (rtE v + 52))), (4, .int (-2147483648))]) hl [1, 0, 2, 3] rfl) (by unfold rtM; rw [if_neg (by omega)]))
  have J159 : fx_eq v FP.dconst0 = false → ∀ (A_ B_ : Nat) (z : Int), A_ % 2 ^ 20 + 2 ^ 20 = rtM0 v / 2 ^ 32 → B_ % 2 ^ 32 = rtM0 v % 2 ^ 32 → z = rtE v + 1075 → ∀ (ls : Array Slot), lv_has ls 16 [(10, .int (nI A_)), (8, .int (nI B_)), (13, .int (Int32.ofInt z)), (4, .int (-2147483648))] → W p0 l e0 (rm_ 2) s0 mid ([.double v] : List Value).toArray bl0 me0 co0 s0.heap [] 0 0 (MQ bl0 (sQ (some (.double (rtD v)))) ([.double v] : List Value).toArray s0 0 0 (fun _ => False)) (F0 mid 159 ls []) := by
    intro h0 A_ B_ z hA hB hz ls hl
    obtain ⟨va, vb⟩ := rtOK_p hv h0
    obtain ⟨m1, m2⟩ := rtM_rng va vb
    obtain ⟨e1, e2⟩ := rtE_rng vb va
    refine lv_iincW (v := Int32.ofInt (z - 1023)) (lv' := [(13, .int (Int32.ofInt (z - 1023))), (10, .int (nI A_)), (8, .int (nI B_)), (4, .int (-2147483648))]) hx hb dJ3_compute_159 hl (k := 2) rfl (by rw [iZ_add]; rfl) (by decide) rfl (fun ls hl => ?_)
    refine lv_iload hx hb dJ3_compute_165 (lv_at hl 1 rfl) ?_
    refine lv_ldc hx hb hown (hts _ q823) dJ3_compute_167 ?_
    refine w_st (st' := [.int (nI 1048575), .int (nI A_)]) (by rfl) ?_
    refine lv_iand hx hb dJ3_compute_169 ?_
    refine w_st (st' := [.int (nI (A_ % 2 ^ 20))]) (by rw [nI_and, show (1048575 : Nat) = 2 ^ 20 - 1 by decide, and_m]) ?_
    refine lv_ldc hx hb hown (hts _ q822) dJ3_compute_170 ?_
    refine w_st (st' := [.int (nI 1048576), .int (nI (A_ % 2 ^ 20))]) (by rfl) ?_
    refine lv_ior hx hb dJ3_compute_172 ?_
    refine w_st (st' := [.int (nI (rtM0 v / 2 ^ 32))]) (by rw [nI_or, Nat.or_comm, show (1048576 : Nat) = 1 * 2 ^ 20 by decide, or_add (Nat.mod_lt _ (by decide)), ← hA, Nat.one_mul, Nat.add_comm]) ?_
    refine lv_istore (lv' := [(10, .int (nI (rtM0 v / 2 ^ 32))), (13, .int (Int32.ofInt (z - 1023))), (8, .int (nI B_)), (4, .int (-2147483648))]) hx hb dJ3_compute_173 hl (by decide) rfl (fun ls hl => ?_)
    exact J175 h0 ls (lv_eq (lv_sub (l' := [(10, .int (nI (rtM0 v / 2 ^ 32))), (8, .int (nI B_)), (13, .int (Int32.ofInt (z - 1023))), (4, .int (-2147483648))]) hl [0, 2, 1, 3] rfl) (by rw [nI_w (a := B_) (b := rtM0 v % 2 ^ 32) (by omega), hz, show rtE v + 1075 - 1023 = rtE v + 52 by omega]))
  have L110 : fx_eq v FP.dconst0 = false → v.toNat / 2 ^ 52 = 0 → ∀ (A_ B_ u : Nat), A_ * 2 ^ 32 + B_ = v.toNat % 2 ^ 52 * 2 ^ u → B_ < 2 ^ 32 → 0 < A_ → A_ < 2 ^ 21 → (A_ < 2 ^ 20 ∨ B_ % 2 ^ 21 = 0) → u ≤ 100 → ∀ (n_ i : Nat), A_ * 2 ^ i < 2 ^ 21 → 2 ^ 20 ≤ A_ * 2 ^ (i + n_) → i ≤ 20 → i + n_ ≤ 20 → ∀ (ls : Array Slot), lv_has ls 16 [(15, .int (nI i)), (10, .int (nI (A_ * 2 ^ i))), (8, .int (nI B_)), (13, .int (Int32.ofInt (-(u : Int)))), (4, .int (-2147483648))] → W p0 l e0 (rm_ 2) s0 mid ([.double v] : List Value).toArray bl0 me0 co0 s0.heap [] 0 0 (MQ bl0 (sQ (some (.double (rtD v)))) ([.double v] : List Value).toArray s0 0 0 (fun _ => False)) (F0 mid 110 ls []) := by
    intro h0 hz A_ B_ u hF hB hA0 hA1 hAB hu n_
    obtain ⟨va, vb⟩ := rtOK_p hv h0
    obtain ⟨m1, m2⟩ := rtM_rng va vb
    induction n_ with
    | zero =>
      intro i hA3 hA4 hi20 hi21 ls hl
      refine lv_iload hx hb dJ3_compute_110 (lv_at hl 1 rfl) ?_
      refine lv_ldc hx hb hown (hts _ q822) dJ3_compute_112 ?_
      refine w_st (st' := [.int (nI 1048576), .int (nI (A_ * 2 ^ i))]) (by rfl) ?_
      refine lv_iand hx hb dJ3_compute_114 ?_
      refine lv_if_ne (tgt := 130) hx hb dJ3_compute_115 (by decide) (fun c_115 => ?_) (fun c_115 => ?_)
      · have hA2 : 2 ^ 20 ≤ A_ * 2 ^ i := Classical.byContradiction fun z => c_115 (by rw [show (1048576 : Nat) = 1 * 2 ^ 20 by decide, nI_and, and_mul, Nat.div_eq_of_lt (by omega)]; rfl)
        have hU := rtU_ok 53 (v.toNat % 2 ^ 52) (by omega) (by omega) (rt_53 (by omega))
        have hN : v.toNat % 2 ^ 52 * 2 ^ (u + i) = A_ * 2 ^ i * 2 ^ 32 + B_ * 2 ^ i := by rw [Nat.pow_add, ← Nat.mul_assoc, ← hF, Nat.add_mul, Nat.mul_right_comm]
        have hBi : B_ * 2 ^ i < 2 ^ 32 * 2 ^ i := Nat.mul_lt_mul_of_pos_right hB (Nat.two_pow_pos _)
        obtain ⟨w, hw⟩ : ∃ w, A_ * 2 ^ i + 2 ^ i = w := ⟨_, rfl⟩
        have hAi : A_ * 2 ^ i + 2 ^ i ≤ 2 ^ 21 := pw_top hA3 hi20
        have hB2 : B_ * 2 ^ i < 2 ^ i * 2 ^ 32 := by rw [Nat.mul_comm (2 ^ i)]; exact hBi
        have hlt : v.toNat % 2 ^ 52 * 2 ^ (u + i) < 2 ^ 53 := by rw [hN]; omega
        have hge : 2 ^ 52 ≤ v.toNat % 2 ^ 52 * 2 ^ (u + i) := by rw [hN]; omega
        have hUe : rtU 53 (v.toNat % 2 ^ 52) = u + i := nrm_one hU.1 hU.2.1 hge hlt
        have hM0 : rtM0 v = v.toNat % 2 ^ 52 * 2 ^ (u + i) := by unfold rtM0; rw [if_pos hz, hUe]
        have hE0 : rtE v = 1 - ((u + i : Nat) : Int) - 1075 := by unfold rtE; rw [if_pos hz, hUe]
        have hdm := sh_dm (B := B_) (i := i) hB (by omega)
        refine lv_iload hx hb dJ3_compute_130 (lv_at hl 3 rfl) ?_
        refine lv_iload hx hb dJ3_compute_132 (lv_at hl 0 rfl) ?_
        refine lv_iconst (v := nI 1) hx hb dJ3_compute_134 (by decide) ?_
        refine lv_isub hx hb dJ3_compute_135 ?_
        refine w_st (st' := [.int (Int32.ofInt ((i : Int) - 1)), .int (Int32.ofInt (-(u : Int)))]) (by rw [iZ_nI, iZ_nI, iZ_sub]; rfl) ?_
        refine lv_isub hx hb dJ3_compute_136 ?_
        refine w_st (st' := [.int (Int32.ofInt (-(u : Int) - ((i : Int) - 1)))]) (by rw [iZ_sub]) ?_
        refine lv_istore (lv' := [(13, .int (Int32.ofInt (-(u : Int) - ((i : Int) - 1)))), (15, .int (nI i)), (10, .int (nI (A_ * 2 ^ i))), (8, .int (nI B_)), (4, .int (-2147483648))]) hx hb dJ3_compute_137 hl (by decide) rfl (fun ls hl => ?_)
        refine lv_iload hx hb dJ3_compute_139 (lv_at hl 2 rfl) ?_
        refine lv_iload hx hb dJ3_compute_141 (lv_at hl 3 rfl) ?_
        refine lv_bipush (v := nI 32) hx hb dJ3_compute_143 (by decide) ?_
        refine lv_iload hx hb dJ3_compute_145 (lv_at hl 1 rfl) ?_
        refine lv_isub hx hb dJ3_compute_147 ?_
        refine lv_iushr (v := _) hx hb dJ3_compute_148 rfl ?_
        refine lv_ior hx hb dJ3_compute_149 ?_
        refine w_st (st' := [.int (nI (cA_ A_ B_ i))]) (by rw [cA_or hB hi20]) ?_
        refine lv_istore (lv' := [(10, .int (nI (cA_ A_ B_ i))), (13, .int (Int32.ofInt (-(u : Int) - ((i : Int) - 1)))), (15, .int (nI i)), (8, .int (nI B_)), (4, .int (-2147483648))]) hx hb dJ3_compute_150 hl (by decide) rfl (fun ls hl => ?_)
        refine lv_iload hx hb dJ3_compute_152 (lv_at hl 3 rfl) ?_
        refine lv_iload hx hb dJ3_compute_154 (lv_at hl 2 rfl) ?_
        refine lv_ishl hx hb dJ3_compute_156 ?_
        refine w_st (st' := [.int (nI (B_ * 2 ^ i))]) (by rw [nI_shl (by omega)]) ?_
        refine lv_istore (lv' := [(8, .int (nI (B_ * 2 ^ i))), (10, .int (nI (cA_ A_ B_ i))), (13, .int (Int32.ofInt (-(u : Int) - ((i : Int) - 1)))), (15, .int (nI i)), (4, .int (-2147483648))]) hx hb dJ3_compute_157 hl (by decide) rfl (fun ls hl => ?_)
        exact J159 h0 (cA_ A_ B_ i) (B_ * 2 ^ i) (1 - ((u + i : Nat) : Int)) (by rw [cA_m hA3 hA2 hAi hB hi20 hAB, hM0, hN]) (by rw [hM0, hN]; omega) (by rw [hE0]; omega) ls (lv_eq (lv_sub (l' := [(10, .int (nI (cA_ A_ B_ i))), (8, .int (nI (B_ * 2 ^ i))), (13, .int (Int32.ofInt (-(u : Int) - ((i : Int) - 1)))), (4, .int (-2147483648))]) hl [1, 0, 2, 4] rfl) (by rw [show -(u : Int) - ((i : Int) - 1) = 1 - ((u + i : Nat) : Int) by omega]))
      · have hA2 : A_ * 2 ^ i < 2 ^ 20 := Classical.byContradiction fun z => absurd c_115 (by rw [show (1048576 : Nat) = 1 * 2 ^ 20 by decide, nI_and, and_mul, show A_ * 2 ^ i / 2 ^ 20 = 1 by omega]; decide)
        exact absurd hA4 (by rw [Nat.add_zero]; omega)
    | succ n_ ih =>
      intro i hA3 hA4 hi20 hi21 ls hl
      refine lv_iload hx hb dJ3_compute_110 (lv_at hl 1 rfl) ?_
      refine lv_ldc hx hb hown (hts _ q822) dJ3_compute_112 ?_
      refine w_st (st' := [.int (nI 1048576), .int (nI (A_ * 2 ^ i))]) (by rfl) ?_
      refine lv_iand hx hb dJ3_compute_114 ?_
      refine lv_if_ne (tgt := 130) hx hb dJ3_compute_115 (by decide) (fun c_115 => ?_) (fun c_115 => ?_)
      · have hA2 : 2 ^ 20 ≤ A_ * 2 ^ i := Classical.byContradiction fun z => c_115 (by rw [show (1048576 : Nat) = 1 * 2 ^ 20 by decide, nI_and, and_mul, Nat.div_eq_of_lt (by omega)]; rfl)
        have hU := rtU_ok 53 (v.toNat % 2 ^ 52) (by omega) (by omega) (rt_53 (by omega))
        have hN : v.toNat % 2 ^ 52 * 2 ^ (u + i) = A_ * 2 ^ i * 2 ^ 32 + B_ * 2 ^ i := by rw [Nat.pow_add, ← Nat.mul_assoc, ← hF, Nat.add_mul, Nat.mul_right_comm]
        have hBi : B_ * 2 ^ i < 2 ^ 32 * 2 ^ i := Nat.mul_lt_mul_of_pos_right hB (Nat.two_pow_pos _)
        obtain ⟨w, hw⟩ : ∃ w, A_ * 2 ^ i + 2 ^ i = w := ⟨_, rfl⟩
        have hAi : A_ * 2 ^ i + 2 ^ i ≤ 2 ^ 21 := pw_top hA3 hi20
        have hB2 : B_ * 2 ^ i < 2 ^ i * 2 ^ 32 := by rw [Nat.mul_comm (2 ^ i)]; exact hBi
        have hlt : v.toNat % 2 ^ 52 * 2 ^ (u + i) < 2 ^ 53 := by rw [hN]; omega
        have hge : 2 ^ 52 ≤ v.toNat % 2 ^ 52 * 2 ^ (u + i) := by rw [hN]; omega
        have hUe : rtU 53 (v.toNat % 2 ^ 52) = u + i := nrm_one hU.1 hU.2.1 hge hlt
        have hM0 : rtM0 v = v.toNat % 2 ^ 52 * 2 ^ (u + i) := by unfold rtM0; rw [if_pos hz, hUe]
        have hE0 : rtE v = 1 - ((u + i : Nat) : Int) - 1075 := by unfold rtE; rw [if_pos hz, hUe]
        have hdm := sh_dm (B := B_) (i := i) hB (by omega)
        refine lv_iload hx hb dJ3_compute_130 (lv_at hl 3 rfl) ?_
        refine lv_iload hx hb dJ3_compute_132 (lv_at hl 0 rfl) ?_
        refine lv_iconst (v := nI 1) hx hb dJ3_compute_134 (by decide) ?_
        refine lv_isub hx hb dJ3_compute_135 ?_
        refine w_st (st' := [.int (Int32.ofInt ((i : Int) - 1)), .int (Int32.ofInt (-(u : Int)))]) (by rw [iZ_nI, iZ_nI, iZ_sub]; rfl) ?_
        refine lv_isub hx hb dJ3_compute_136 ?_
        refine w_st (st' := [.int (Int32.ofInt (-(u : Int) - ((i : Int) - 1)))]) (by rw [iZ_sub]) ?_
        refine lv_istore (lv' := [(13, .int (Int32.ofInt (-(u : Int) - ((i : Int) - 1)))), (15, .int (nI i)), (10, .int (nI (A_ * 2 ^ i))), (8, .int (nI B_)), (4, .int (-2147483648))]) hx hb dJ3_compute_137 hl (by decide) rfl (fun ls hl => ?_)
        refine lv_iload hx hb dJ3_compute_139 (lv_at hl 2 rfl) ?_
        refine lv_iload hx hb dJ3_compute_141 (lv_at hl 3 rfl) ?_
        refine lv_bipush (v := nI 32) hx hb dJ3_compute_143 (by decide) ?_
        refine lv_iload hx hb dJ3_compute_145 (lv_at hl 1 rfl) ?_
        refine lv_isub hx hb dJ3_compute_147 ?_
        refine lv_iushr (v := _) hx hb dJ3_compute_148 rfl ?_
        refine lv_ior hx hb dJ3_compute_149 ?_
        refine w_st (st' := [.int (nI (cA_ A_ B_ i))]) (by rw [cA_or hB hi20]) ?_
        refine lv_istore (lv' := [(10, .int (nI (cA_ A_ B_ i))), (13, .int (Int32.ofInt (-(u : Int) - ((i : Int) - 1)))), (15, .int (nI i)), (8, .int (nI B_)), (4, .int (-2147483648))]) hx hb dJ3_compute_150 hl (by decide) rfl (fun ls hl => ?_)
        refine lv_iload hx hb dJ3_compute_152 (lv_at hl 3 rfl) ?_
        refine lv_iload hx hb dJ3_compute_154 (lv_at hl 2 rfl) ?_
        refine lv_ishl hx hb dJ3_compute_156 ?_
        refine w_st (st' := [.int (nI (B_ * 2 ^ i))]) (by rw [nI_shl (by omega)]) ?_
        refine lv_istore (lv' := [(8, .int (nI (B_ * 2 ^ i))), (10, .int (nI (cA_ A_ B_ i))), (13, .int (Int32.ofInt (-(u : Int) - ((i : Int) - 1)))), (15, .int (nI i)), (4, .int (-2147483648))]) hx hb dJ3_compute_157 hl (by decide) rfl (fun ls hl => ?_)
        exact J159 h0 (cA_ A_ B_ i) (B_ * 2 ^ i) (1 - ((u + i : Nat) : Int)) (by rw [cA_m hA3 hA2 hAi hB hi20 hAB, hM0, hN]) (by rw [hM0, hN]; omega) (by rw [hE0]; omega) ls (lv_eq (lv_sub (l' := [(10, .int (nI (cA_ A_ B_ i))), (8, .int (nI (B_ * 2 ^ i))), (13, .int (Int32.ofInt (-(u : Int) - ((i : Int) - 1)))), (4, .int (-2147483648))]) hl [1, 0, 2, 4] rfl) (by rw [show -(u : Int) - ((i : Int) - 1) = 1 - ((u + i : Nat) : Int) by omega]))
      · have hA2 : A_ * 2 ^ i < 2 ^ 20 := Classical.byContradiction fun z => absurd c_115 (by rw [show (1048576 : Nat) = 1 * 2 ^ 20 by decide, nI_and, and_mul, show A_ * 2 ^ i / 2 ^ 20 = 1 by omega]; decide)
        refine lv_iload hx hb dJ3_compute_118 (lv_at hl 1 rfl) ?_
        refine lv_iconst (v := nI 1) hx hb dJ3_compute_120 (by decide) ?_
        refine lv_ishl hx hb dJ3_compute_121 ?_
        refine w_st (st' := [.int (nI (A_ * 2 ^ (i + 1)))]) (by rw [nI_shl (by decide), Nat.pow_one, Nat.pow_succ, Nat.mul_assoc]) ?_
        refine lv_istore (lv' := [(10, .int (nI (A_ * 2 ^ (i + 1)))), (15, .int (nI i)), (8, .int (nI B_)), (13, .int (Int32.ofInt (-(u : Int)))), (4, .int (-2147483648))]) hx hb dJ3_compute_122 hl (by decide) rfl (fun ls hl => ?_)
        refine lv_iinc (v := nI (i + 1)) (lv' := [(15, .int (nI (i + 1))), (10, .int (nI (A_ * 2 ^ (i + 1)))), (8, .int (nI B_)), (13, .int (Int32.ofInt (-(u : Int)))), (4, .int (-2147483648))]) hx hb dJ3_compute_124 hl (k := 1) rfl (nI_1 _) (by decide) rfl (fun ls hl => ?_)
        refine lv_goto (tgt := 110) hx hb dJ3_compute_127 (by decide) ?_
        exact ih (i + 1) (by rw [Nat.pow_succ, ← Nat.mul_assoc]; omega) (by rw [show i + 1 + n_ = i + (n_ + 1) by omega]; exact hA4) (by omega) (by omega) ls (lv_sub hl [0, 1, 2, 3, 4] rfl)
  have L79 : fx_eq v FP.dconst0 = false → v.toNat / 2 ^ 52 = 0 → ∀ (n_ X u : Nat), X = v.toNat % 2 ^ 52 * 2 ^ u → X < 2 ^ 53 → (X < 2 ^ 52 ∨ X % 2 ^ 21 = 0) → 2 ^ 32 ≤ X * 2 ^ (21 * n_) → u + 21 * n_ ≤ 80 → ∀ (ls : Array Slot), lv_has ls 16 [(10, .int (nI (X / 2 ^ 32))), (8, .int (nI (X % 2 ^ 32))), (13, .int (Int32.ofInt (-(u : Int)))), (4, .int (-2147483648))] → W p0 l e0 (rm_ 2) s0 mid ([.double v] : List Value).toArray bl0 me0 co0 s0.heap [] 0 0 (MQ bl0 (sQ (some (.double (rtD v)))) ([.double v] : List Value).toArray s0 0 0 (fun _ => False)) (F0 mid 79 ls []) := by
    intro h0 hz n_
    obtain ⟨va, vb⟩ := rtOK_p hv h0
    obtain ⟨m1, m2⟩ := rtM_rng va vb
    induction n_ with
    | zero =>
      intro X u hX hX1 hX2 hb_ hu ls hl
      refine lv_iload hx hb dJ3_compute_79 (lv_at hl 0 rfl) ?_
      refine nz_ne (tgt := 107) hx hb (by omega) dJ3_compute_81 (by decide) (fun c_81 => ?_) (fun c_81 => ?_)
      · refine lv_iconst (v := nI 0) hx hb dJ3_compute_107 (by decide) ?_
        refine lv_istore (lv' := [(15, .int (nI 0)), (10, .int (nI (X / 2 ^ 32))), (8, .int (nI (X % 2 ^ 32))), (13, .int (Int32.ofInt (-(u : Int)))), (4, .int (-2147483648))]) hx hb dJ3_compute_108 hl (by decide) rfl (fun ls hl => ?_)
        exact L110 h0 hz (X / 2 ^ 32) (X % 2 ^ 32) u (by rw [← hX]; omega) (by omega) (by omega) (by omega) (by omega) (by omega) 20 0 (pw_up (by omega) (by omega)).1 (pw_up (by omega) (by omega)).2 (by omega) (by omega) ls (lv_eq (lv_sub (l' := [(15, .int (nI 0)), (10, .int (nI (X / 2 ^ 32))), (8, .int (nI (X % 2 ^ 32))), (13, .int (Int32.ofInt (-(u : Int)))), (4, .int (-2147483648))]) hl [0, 1, 2, 3, 4] rfl) (by rw [Nat.pow_zero, Nat.mul_one]))
      · exact absurd hb_ (by rw [Nat.mul_zero, Nat.pow_zero, Nat.mul_one]; omega)
    | succ n_ ih =>
      intro X u hX hX1 hX2 hb_ hu ls hl
      refine lv_iload hx hb dJ3_compute_79 (lv_at hl 0 rfl) ?_
      refine nz_ne (tgt := 107) hx hb (by omega) dJ3_compute_81 (by decide) (fun c_81 => ?_) (fun c_81 => ?_)
      · refine lv_iconst (v := nI 0) hx hb dJ3_compute_107 (by decide) ?_
        refine lv_istore (lv' := [(15, .int (nI 0)), (10, .int (nI (X / 2 ^ 32))), (8, .int (nI (X % 2 ^ 32))), (13, .int (Int32.ofInt (-(u : Int)))), (4, .int (-2147483648))]) hx hb dJ3_compute_108 hl (by decide) rfl (fun ls hl => ?_)
        exact L110 h0 hz (X / 2 ^ 32) (X % 2 ^ 32) u (by rw [← hX]; omega) (by omega) (by omega) (by omega) (by omega) (by omega) 20 0 (pw_up (by omega) (by omega)).1 (pw_up (by omega) (by omega)).2 (by omega) (by omega) ls (lv_eq (lv_sub (l' := [(15, .int (nI 0)), (10, .int (nI (X / 2 ^ 32))), (8, .int (nI (X % 2 ^ 32))), (13, .int (Int32.ofInt (-(u : Int)))), (4, .int (-2147483648))]) hl [0, 1, 2, 3, 4] rfl) (by rw [Nat.pow_zero, Nat.mul_one]))
      · refine lv_iinc (v := Int32.ofInt (-(u : Int) - 21)) (lv' := [(13, .int (Int32.ofInt (-(u : Int) - 21))), (10, .int (nI (X / 2 ^ 32))), (8, .int (nI (X % 2 ^ 32))), (4, .int (-2147483648))]) hx hb dJ3_compute_84 hl (k := 2) rfl (by rw [iZ_add]; rfl) (by decide) rfl (fun ls hl => ?_)
        refine lv_iload hx hb dJ3_compute_87 (lv_at hl 1 rfl) ?_
        refine lv_iload hx hb dJ3_compute_89 (lv_at hl 2 rfl) ?_
        refine lv_bipush (v := nI 11) hx hb dJ3_compute_91 (by decide) ?_
        refine lv_iushr (v := nI (X % 2 ^ 32 / 2 ^ 11)) hx hb dJ3_compute_93 (by rw [nI_ushr (by omega) (by decide)]) ?_
        refine lv_ior hx hb dJ3_compute_94 ?_
        refine w_st (st' := [.int (nI (X * 2 ^ 21 / 2 ^ 32))]) (by rw [nI_or, c_81, Nat.zero_or]; exact congrArg (fun z => [Value.int (nI z)]) (by omega)) ?_
        refine lv_istore (lv' := [(10, .int (nI (X * 2 ^ 21 / 2 ^ 32))), (13, .int (Int32.ofInt (-(u : Int) - 21))), (8, .int (nI (X % 2 ^ 32))), (4, .int (-2147483648))]) hx hb dJ3_compute_95 hl (by decide) rfl (fun ls hl => ?_)
        refine lv_iload hx hb dJ3_compute_97 (lv_at hl 2 rfl) ?_
        refine lv_bipush (v := nI 21) hx hb dJ3_compute_99 (by decide) ?_
        refine lv_ishl hx hb dJ3_compute_101 ?_
        refine w_st (st' := [.int (nI (X * 2 ^ 21 % 2 ^ 32))]) (by rw [nI_shl (by decide)]; exact congrArg (fun z => [Value.int z]) (nI_w (by omega))) ?_
        refine lv_istore (lv' := [(8, .int (nI (X * 2 ^ 21 % 2 ^ 32))), (10, .int (nI (X * 2 ^ 21 / 2 ^ 32))), (13, .int (Int32.ofInt (-(u : Int) - 21))), (4, .int (-2147483648))]) hx hb dJ3_compute_102 hl (by decide) rfl (fun ls hl => ?_)
        refine lv_goto (tgt := 79) hx hb dJ3_compute_104 (by decide) ?_
        exact ih (X * 2 ^ 21) (u + 21) (by rw [hX, Nat.pow_add, Nat.mul_assoc]) (by omega) (by omega) (by rw [Nat.mul_assoc, ← Nat.pow_add, show 21 + 21 * n_ = 21 * (n_ + 1) by omega]; exact hb_) (by omega) ls (lv_eq (lv_sub (l' := [(10, .int (nI (X * 2 ^ 21 / 2 ^ 32))), (8, .int (nI (X * 2 ^ 21 % 2 ^ 32))), (13, .int (Int32.ofInt (-(u : Int) - 21))), (4, .int (-2147483648))]) hl [1, 0, 2, 3] rfl) (by rw [show -(u : Int) - 21 = -((u + 21 : Nat) : Int) by omega]))
  by_cases h0 : fx_eq v FP.dconst0 = true
  · have hz0 := rt_zero hv h0
    refine lv_dconst0 hx hb dJ3_compute_0 ?_
    refine lv_dstore_n (lv' := [(2, .double FP.dconst0), (0, .double v)]) hx hb dJ3_compute_1 rfl hl (by decide) rfl (fun ls hl => ?_)
    refine lv_ldc hx hb hown (hts _ q813) dJ3_compute_2 ?_
    refine lv_istore (lv' := [(4, .int (-2147483648)), (2, .double FP.dconst0), (0, .double v)]) hx hb dJ3_compute_4 hl (by decide) rfl (fun ls hl => ?_)
    refine lv_dload_n hx hb dJ3_compute_6 rfl (lv_at hl 2 rfl) ?_
    refine sN_call (As := [.double v]) (rest := []) S (st_J4___HI l v) hns.1 q815 q75 q816 hd_J4___HI ⟨Nat.le_of_ble_eq_true rfl, Nat.le_of_ble_eq_true rfl⟩ rfl hl.1 rfl (Nat.le_of_ble_eq_true rfl) dJ3_compute_7 ⟨Nat.zero_le _, Nat.zero_le _⟩ ?_
    refine W.eq (g2 := F0 mid 10 ls [.int (hiI v)]) (by rfl) ?_
    refine lv_istore (lv' := [(10, .int (hiI v)), (4, .int (-2147483648)), (2, .double FP.dconst0), (0, .double v)]) hx hb dJ3_compute_10 hl (by decide) rfl (fun ls hl => ?_)
    refine lv_dload_n hx hb dJ3_compute_12 rfl (lv_at hl 3 rfl) ?_
    refine sN_call (As := [.double v]) (rest := []) S (st_J4___LO l v) hns.2.1 q819 q75 q820 hd_J4___LO ⟨Nat.le_of_ble_eq_true rfl, Nat.le_of_ble_eq_true rfl⟩ rfl hl.1 rfl (Nat.le_of_ble_eq_true rfl) dJ3_compute_13 ⟨Nat.zero_le _, Nat.zero_le _⟩ ?_
    refine W.eq (g2 := F0 mid 16 ls [.int (loI v)]) (by rfl) ?_
    refine lv_istore (lv' := [(8, .int (loI v)), (10, .int (hiI v)), (4, .int (-2147483648)), (2, .double FP.dconst0), (0, .double v)]) hx hb dJ3_compute_16 hl (by decide) rfl (fun ls hl => ?_)
    refine lv_iload hx hb dJ3_compute_18 (lv_at hl 1 rfl) ?_
    refine lv_ldc hx hb hown (hts _ q821) dJ3_compute_20 ?_
    refine lv_iand hx hb dJ3_compute_22 ?_
    refine lv_ldc hx hb hown (hts _ q821) dJ3_compute_23 ?_
    refine lv_icmp_ne (tgt := 34) hx hb dJ3_compute_25 (by decide) (fun _ => ?_) (fun c_ => absurd c_ (by rcases hz0 with h | h <;> rw [h] <;> decide))
    refine lv_iload hx hb dJ3_compute_34 (lv_at hl 1 rfl) ?_
    refine lv_if_gt (tgt := 67) hx hb dJ3_compute_36 (by decide) (fun c_ => absurd c_ (by rcases hz0 with h | h <;> rw [h] <;> decide)) (fun _ => ?_)
    refine lv_iload hx hb dJ3_compute_39 (lv_at hl 1 rfl) ?_
    refine lv_iload hx hb dJ3_compute_41 (lv_at hl 2 rfl) ?_
    refine lv_iconst (v := (-1)) hx hb dJ3_compute_43 (by decide) ?_
    refine lv_ixor hx hb dJ3_compute_44 ?_
    refine lv_iand hx hb dJ3_compute_45 ?_
    refine lv_iload hx hb dJ3_compute_46 (lv_at hl 0 rfl) ?_
    refine lv_ior hx hb dJ3_compute_48 ?_
    refine lv_if_ne (tgt := 54) hx hb dJ3_compute_49 (by decide) (fun c_ => absurd (show _ = (0 : Int32) by rcases hz0 with h | h <;> rw [h] <;> decide) c_) (fun _ => ?_)
    refine lv_dload_n hx hb dJ3_compute_52 rfl (lv_at hl 4 rfl) ?_
    exact ss_dret S hr hlk (by unfold rtD; rw [if_pos h0]) dJ3_compute_53
  · have h0 : fx_eq v FP.dconst0 = false := by simpa using h0
    obtain ⟨va, vb⟩ := rtOK_p hv h0
    obtain ⟨m1, m2⟩ := rtM_rng va vb
    have J67 : ∀ (ls : Array Slot), lv_has ls 16 [(10, .int (nI (v.toNat / 2 ^ 32))), (8, .int (nI (v.toNat % 2 ^ 32))), (4, .int (-2147483648))] → W p0 l e0 (rm_ 2) s0 mid ([.double v] : List Value).toArray bl0 me0 co0 s0.heap [] 0 0 (MQ bl0 (sQ (some (.double (rtD v)))) ([.double v] : List Value).toArray s0 0 0 (fun _ => False)) (F0 mid 67 ls []) := by
      intro ls hl
      refine lv_iload hx hb dJ3_compute_67 (lv_at hl 0 rfl) ?_
      refine lv_bipush (v := nI 20) hx hb dJ3_compute_69 (by decide) ?_
      refine lv_ishr hx hb dJ3_compute_71 ?_
      refine w_st (st' := [.int (nI (v.toNat / 2 ^ 52))]) (by rw [nI_shr (by omega) (by decide)]; exact congrArg (fun z => [Value.int (nI z)]) (by omega)) ?_
      refine lv_istore (lv' := [(13, .int (nI (v.toNat / 2 ^ 52))), (10, .int (nI (v.toNat / 2 ^ 32))), (8, .int (nI (v.toNat % 2 ^ 32))), (4, .int (-2147483648))]) hx hb dJ3_compute_72 hl (by decide) rfl (fun ls hl => ?_)
      refine lv_iload hx hb dJ3_compute_74 (lv_at hl 0 rfl) ?_
      refine nz_ne (tgt := 159) hx hb (by omega) dJ3_compute_76 (by decide) (fun c_76 => ?_) (fun c_76 => ?_)
      · exact J159 h0 (v.toNat / 2 ^ 32) (v.toNat % 2 ^ 32) (v.toNat / 2 ^ 52 : Nat) (by unfold rtM0; rw [if_neg c_76]; omega) (by unfold rtM0; rw [if_neg c_76]; omega) (by unfold rtE; rw [if_neg c_76]; omega) ls (lv_eq (lv_sub (l' := [(10, .int (nI (v.toNat / 2 ^ 32))), (8, .int (nI (v.toNat % 2 ^ 32))), (13, .int (nI (v.toNat / 2 ^ 52))), (4, .int (-2147483648))]) hl [1, 2, 0, 3] rfl) (by rw [iZ_nI (v.toNat / 2 ^ 52)]))
      · exact L79 h0 c_76 3 (v.toNat % 2 ^ 52) 0 (by rw [Nat.pow_zero, Nat.mul_one]) (by omega) (by omega) (Nat.le_trans (by decide) (Nat.mul_le_mul_right (2 ^ 63) (show 1 ≤ v.toNat % 2 ^ 52 by omega))) (by omega) ls (lv_eq (lv_sub (l' := [(10, .int (nI (v.toNat / 2 ^ 32))), (8, .int (nI (v.toNat % 2 ^ 32))), (13, .int (nI (v.toNat / 2 ^ 52))), (4, .int (-2147483648))]) hl [1, 2, 0, 3] rfl) (by rw [show v.toNat % 2 ^ 52 = v.toNat by omega, c_76]; rfl))
    refine lv_dconst0 hx hb dJ3_compute_0 ?_
    refine lv_dstore_n (lv' := [(2, .double FP.dconst0), (0, .double v)]) hx hb dJ3_compute_1 rfl hl (by decide) rfl (fun ls hl => ?_)
    refine lv_ldc hx hb hown (hts _ q813) dJ3_compute_2 ?_
    refine lv_istore (lv' := [(4, .int (-2147483648)), (2, .double FP.dconst0), (0, .double v)]) hx hb dJ3_compute_4 hl (by decide) rfl (fun ls hl => ?_)
    refine lv_dload_n hx hb dJ3_compute_6 rfl (lv_at hl 2 rfl) ?_
    refine sN_call (As := [.double v]) (rest := []) S (st_J4___HI l v) hns.1 q815 q75 q816 hd_J4___HI ⟨Nat.le_of_ble_eq_true rfl, Nat.le_of_ble_eq_true rfl⟩ rfl hl.1 rfl (Nat.le_of_ble_eq_true rfl) dJ3_compute_7 ⟨Nat.zero_le _, Nat.zero_le _⟩ ?_
    refine W.eq (g2 := F0 mid 10 ls [.int (hiI v)]) (by rfl) ?_
    refine w_st (st' := [.int (nI (v.toNat / 2 ^ 32))]) (by rw [hi_n (by omega)]) ?_
    refine lv_istore (lv' := [(10, .int (nI (v.toNat / 2 ^ 32))), (4, .int (-2147483648)), (2, .double FP.dconst0), (0, .double v)]) hx hb dJ3_compute_10 hl (by decide) rfl (fun ls hl => ?_)
    refine lv_dload_n hx hb dJ3_compute_12 rfl (lv_at hl 3 rfl) ?_
    refine sN_call (As := [.double v]) (rest := []) S (st_J4___LO l v) hns.2.1 q819 q75 q820 hd_J4___LO ⟨Nat.le_of_ble_eq_true rfl, Nat.le_of_ble_eq_true rfl⟩ rfl hl.1 rfl (Nat.le_of_ble_eq_true rfl) dJ3_compute_13 ⟨Nat.zero_le _, Nat.zero_le _⟩ ?_
    refine W.eq (g2 := F0 mid 16 ls [.int (loI v)]) (by rfl) ?_
    refine w_st (st' := [.int (nI (v.toNat % 2 ^ 32))]) (by rw [lo_n]) ?_
    refine lv_istore (lv' := [(8, .int (nI (v.toNat % 2 ^ 32))), (10, .int (nI (v.toNat / 2 ^ 32))), (4, .int (-2147483648)), (2, .double FP.dconst0), (0, .double v)]) hx hb dJ3_compute_16 hl (by decide) rfl (fun ls hl => ?_)
    refine lv_iload hx hb dJ3_compute_18 (lv_at hl 1 rfl) ?_
    refine lv_ldc hx hb hown (hts _ q821) dJ3_compute_20 ?_
    refine lv_iand hx hb dJ3_compute_22 ?_
    refine lv_ldc hx hb hown (hts _ q821) dJ3_compute_23 ?_
    refine lv_icmp_ne (tgt := 34) hx hb dJ3_compute_25 (by decide) (fun _ => ?_) (fun c_ => ?_)
    · refine lv_iload hx hb dJ3_compute_34 (lv_at hl 1 rfl) ?_
      refine nz_gt (tgt := 67) hx hb (by omega) dJ3_compute_36 (by decide) (fun c_36 => ?_) (fun c_36 => ?_)
      · exact J67 ls (lv_sub hl [1, 0, 2] rfl)
      · refine lv_iload hx hb dJ3_compute_39 (lv_at hl 1 rfl) ?_
        refine lv_iload hx hb dJ3_compute_41 (lv_at hl 2 rfl) ?_
        refine lv_iconst (v := (-1)) hx hb dJ3_compute_43 (by decide) ?_
        refine lv_ixor hx hb dJ3_compute_44 ?_
        refine lv_iand hx hb dJ3_compute_45 ?_
        refine lv_iload hx hb dJ3_compute_46 (lv_at hl 0 rfl) ?_
        refine lv_ior hx hb dJ3_compute_48 ?_
        refine lv_if_ne (tgt := 54) hx hb dJ3_compute_49 (by decide) (fun _ => ?_) (fun c_ => ?_)
        · refine lv_iload hx hb dJ3_compute_54 (lv_at hl 1 rfl) ?_
          refine lv_if_ge (tgt := 67) hx hb dJ3_compute_56 (by decide) (fun _ => ?_) (fun c_ => absurd (show (0 : Int32) ≤ nI (v.toNat / 2 ^ 32) by rw [c_36]; decide) c_)
          exact J67 ls (lv_sub hl [1, 0, 2] rfl)
        · exfalso
          rw [c_36] at c_
          have e1 : nI 0 &&& ((-2147483648) ^^^ (-1)) = nI 0 := by decide
          have c2 : nI (v.toNat % 2 ^ 32) = nI 0 := by rw [e1, nI_or, Nat.zero_or] at c_; exact c_
          have := (nI_eqw (by omega) (by decide)).mp c2
          omega
    · exfalso
      have e1 : (2146435072 : Int32) = nI (2047 * 2 ^ 20) := by decide
      rw [e1, nI_and, and_mul] at c_
      have e2 : v.toNat / 2 ^ 32 / 2 ^ 20 &&& 2047 = v.toNat / 2 ^ 52 := by rw [show (2047 : Nat) = 2 ^ 11 - 1 by decide, and_m]; omega
      rw [e2] at c_
      have := (nI_eqw (by omega) (by decide)).mp c_
      omega
theorem st_J2_sqrt (l : Launch) (v : UInt64) (hv : rtOK v) : sT l yJ2_sqrt cJ2_sqrt 2 (some .double) 3 [.double v] (some (.double (rtD v))) := by
  refine tts_start (own := RJ2) (by decide +kernel) rfl (Nat.le_of_ble_eq_true rfl) ?_
  intro p0 e0 s0 mid bl0 me0 co0 ls S hr hlk hns hl
  have hx := S.1; have hb := S.2.1
  have hl : lv_has ls 2 [(0, .double v)] := hl
  refine lv_dload_n hx hb dJ2_sqrt_0 rfl (lv_at hl 0 rfl) ?_
  refine sT_call (As := [.double v]) (rest := []) S hns (st_J3_compute l v hv) q810 q811 q74 q812 hd_J3_compute ⟨Nat.le_of_ble_eq_true rfl, Nat.le_of_ble_eq_true rfl⟩ rfl hl.1 rfl (Nat.le_of_ble_eq_true rfl) dJ2_sqrt_1 ⟨Nat.zero_le _, Nat.zero_le _⟩ ?_
  refine W.eq (g2 := F0 mid 4 ls [.double (rtD v)]) rfl ?_
  exact ss_dret S hr hlk rfl dJ2_sqrt_4
theorem st_J1_sqrt' (l : Launch) (v : UInt64) (hv : rtOK v) : sT l yJ1_sqrt cJ1_sqrt 2 (some .double) 4 [.double v] (some (.double (rtD v))) := by
  refine tts_start (own := RJ1) (by decide +kernel) rfl (Nat.le_of_ble_eq_true rfl) ?_
  intro p0 e0 s0 mid bl0 me0 co0 ls S hr hlk hns hl
  have hx := S.1; have hb := S.2.1
  have hl : lv_has ls 2 [(0, .double v)] := hl
  refine lv_dload_n hx hb dJ1_sqrt_0 rfl (lv_at hl 0 rfl) ?_
  refine sT_call (As := [.double v]) (rest := []) S hns (st_J2_sqrt l v hv) q807 q808 q57 q809 hd_J2_sqrt ⟨Nat.le_of_ble_eq_true rfl, Nat.le_of_ble_eq_true rfl⟩ rfl hl.1 rfl (Nat.le_of_ble_eq_true rfl) dJ1_sqrt_1 ⟨Nat.zero_le _, Nat.zero_le _⟩ ?_
  refine W.eq (g2 := F0 mid 4 ls [.double (rtD v)]) rfl ?_
  exact ss_dret S hr hlk rfl dJ1_sqrt_4
