set_option maxRecDepth 100000
set_option maxHeartbeats 4000000
theorem dX1_step_0 : decode cX1_step 0 = .ok (.aload_n 0, 1) := by decide +kernel
theorem dX1_step_1 : decode cX1_step 1 = .ok (.getfield 297, 3) := by decide +kernel
theorem dX1_step_4 : decode cX1_step 4 = .ok (.dstore_n 1, 1) := by decide +kernel
theorem dX1_step_5 : decode cX1_step 5 = .ok (.iconst 0, 1) := by decide +kernel
theorem dX1_step_6 : decode cX1_step 6 = .ok (.istore_n 3, 1) := by decide +kernel
theorem dX1_step_7 : decode cX1_step 7 = .ok (.iload_n 3, 1) := by decide +kernel
theorem dX1_step_8 : decode cX1_step 8 = .ok (.aload_n 0, 1) := by decide +kernel
theorem dX1_step_9 : decode cX1_step 9 = .ok (.getfield 158, 3) := by decide +kernel
theorem dX1_step_12 : decode cX1_step 12 = .ok (.if_icmp .ge 145, 3) := by decide +kernel
theorem dX1_step_15 : decode cX1_step 15 = .ok (.aload_n 0, 1) := by decide +kernel
theorem dX1_step_16 : decode cX1_step 16 = .ok (.getfield 131, 3) := by decide +kernel
theorem dX1_step_19 : decode cX1_step 19 = .ok (.iload_n 3, 1) := by decide +kernel
theorem dX1_step_20 : decode cX1_step 20 = .ok (.aload_n 0, 1) := by decide +kernel
theorem dX1_step_21 : decode cX1_step 21 = .ok (.getfield 46, 3) := by decide +kernel
theorem dX1_step_24 : decode cX1_step 24 = .ok (.iload_n 3, 1) := by decide +kernel
theorem dX1_step_25 : decode cX1_step 25 = .ok (.daload, 1) := by decide +kernel
theorem dX1_step_26 : decode cX1_step 26 = .ok (.dastore, 1) := by decide +kernel
theorem dX1_step_27 : decode cX1_step 27 = .ok (.aload_n 0, 1) := by decide +kernel
theorem dX1_step_28 : decode cX1_step 28 = .ok (.getfield 143, 3) := by decide +kernel
theorem dX1_step_31 : decode cX1_step 31 = .ok (.iload_n 3, 1) := by decide +kernel
theorem dX1_step_32 : decode cX1_step 32 = .ok (.aload_n 0, 1) := by decide +kernel
theorem dX1_step_33 : decode cX1_step 33 = .ok (.getfield 49, 3) := by decide +kernel
theorem dX1_step_36 : decode cX1_step 36 = .ok (.iload_n 3, 1) := by decide +kernel
theorem dX1_step_37 : decode cX1_step 37 = .ok (.faload, 1) := by decide +kernel
theorem dX1_step_38 : decode cX1_step 38 = .ok (.fastore, 1) := by decide +kernel
theorem dX1_step_39 : decode cX1_step 39 = .ok (.aload_n 0, 1) := by decide +kernel
theorem dX1_step_40 : decode cX1_step 40 = .ok (.getfield 7, 3) := by decide +kernel
theorem dX1_step_43 : decode cX1_step 43 = .ok (.iload_n 3, 1) := by decide +kernel
theorem dX1_step_44 : decode cX1_step 44 = .ok (.iaload, 1) := by decide +kernel
theorem dX1_step_45 : decode cX1_step 45 = .ok (.iconst 3, 1) := by decide +kernel
theorem dX1_step_46 : decode cX1_step 46 = .ok (.if_icmp .ne 70, 3) := by decide +kernel
theorem dX1_step_49 : decode cX1_step 49 = .ok (.aload_n 0, 1) := by decide +kernel
theorem dX1_step_50 : decode cX1_step 50 = .ok (.getfield 146, 3) := by decide +kernel
theorem dX1_step_53 : decode cX1_step 53 = .ok (.iload_n 3, 1) := by decide +kernel
theorem dX1_step_54 : decode cX1_step 54 = .ok (.aload_n 0, 1) := by decide +kernel
theorem dX1_step_55 : decode cX1_step 55 = .ok (.iload_n 3, 1) := by decide +kernel
theorem dX1_step_56 : decode cX1_step 56 = .ok (.iconst 1, 1) := by decide +kernel
theorem dX1_step_57 : decode cX1_step 57 = .ok (.invokevirtual 242, 3) := by decide +kernel
theorem dX1_step_60 : decode cX1_step 60 = .ok (.dconst 0, 1) := by decide +kernel
theorem dX1_step_61 : decode cX1_step 61 = .ok (.dcmp .l, 1) := by decide +kernel
theorem dX1_step_62 : decode cX1_step 62 = .ok (.ifCond .le 12, 3) := by decide +kernel
theorem dX1_step_65 : decode cX1_step 65 = .ok (.aload_n 0, 1) := by decide +kernel
theorem dX1_step_66 : decode cX1_step 66 = .ok (.iload_n 3, 1) := by decide +kernel
theorem dX1_step_67 : decode cX1_step 67 = .ok (.iconst 0, 1) := by decide +kernel
theorem dX1_step_68 : decode cX1_step 68 = .ok (.invokevirtual 242, 3) := by decide +kernel
theorem dX1_step_71 : decode cX1_step 71 = .ok (.goto 9, 3) := by decide +kernel
theorem dX1_step_74 : decode cX1_step 74 = .ok (.aload_n 0, 1) := by decide +kernel
theorem dX1_step_75 : decode cX1_step 75 = .ok (.getfield 46, 3) := by decide +kernel
theorem dX1_step_78 : decode cX1_step 78 = .ok (.iload_n 3, 1) := by decide +kernel
theorem dX1_step_79 : decode cX1_step 79 = .ok (.daload, 1) := by decide +kernel
theorem dX1_step_80 : decode cX1_step 80 = .ok (.dastore, 1) := by decide +kernel
theorem dX1_step_81 : decode cX1_step 81 = .ok (.aload_n 0, 1) := by decide +kernel
theorem dX1_step_82 : decode cX1_step 82 = .ok (.getfield 149, 3) := by decide +kernel
theorem dX1_step_85 : decode cX1_step 85 = .ok (.iload_n 3, 1) := by decide +kernel
theorem dX1_step_86 : decode cX1_step 86 = .ok (.aload_n 0, 1) := by decide +kernel
theorem dX1_step_87 : decode cX1_step 87 = .ok (.iload_n 3, 1) := by decide +kernel
theorem dX1_step_88 : decode cX1_step 88 = .ok (.iconst 1, 1) := by decide +kernel
theorem dX1_step_89 : decode cX1_step 89 = .ok (.invokevirtual 246, 3) := by decide +kernel
theorem dX1_step_92 : decode cX1_step 92 = .ok (.fconst 0, 1) := by decide +kernel
theorem dX1_step_93 : decode cX1_step 93 = .ok (.fcmp .l, 1) := by decide +kernel
theorem dX1_step_94 : decode cX1_step 94 = .ok (.ifCond .le 12, 3) := by decide +kernel
theorem dX1_step_97 : decode cX1_step 97 = .ok (.aload_n 0, 1) := by decide +kernel
theorem dX1_step_98 : decode cX1_step 98 = .ok (.iload_n 3, 1) := by decide +kernel
theorem dX1_step_99 : decode cX1_step 99 = .ok (.iconst 0, 1) := by decide +kernel
theorem dX1_step_100 : decode cX1_step 100 = .ok (.invokevirtual 246, 3) := by decide +kernel
theorem dX1_step_103 : decode cX1_step 103 = .ok (.goto 9, 3) := by decide +kernel
theorem dX1_step_106 : decode cX1_step 106 = .ok (.aload_n 0, 1) := by decide +kernel
theorem dX1_step_107 : decode cX1_step 107 = .ok (.getfield 49, 3) := by decide +kernel
theorem dX1_step_110 : decode cX1_step 110 = .ok (.iload_n 3, 1) := by decide +kernel
theorem dX1_step_111 : decode cX1_step 111 = .ok (.faload, 1) := by decide +kernel
theorem dX1_step_112 : decode cX1_step 112 = .ok (.fastore, 1) := by decide +kernel
theorem dX1_step_113 : decode cX1_step 113 = .ok (.goto 38, 3) := by decide +kernel
theorem dX1_step_116 : decode cX1_step 116 = .ok (.aload_n 0, 1) := by decide +kernel
theorem dX1_step_117 : decode cX1_step 117 = .ok (.getfield 7, 3) := by decide +kernel
theorem dX1_step_120 : decode cX1_step 120 = .ok (.iload_n 3, 1) := by decide +kernel
theorem dX1_step_121 : decode cX1_step 121 = .ok (.iaload, 1) := by decide +kernel
theorem dX1_step_122 : decode cX1_step 122 = .ok (.bipush 11, 2) := by decide +kernel
theorem dX1_step_124 : decode cX1_step 124 = .ok (.if_icmp .ne 27, 3) := by decide +kernel
theorem dX1_step_127 : decode cX1_step 127 = .ok (.aload_n 0, 1) := by decide +kernel
theorem dX1_step_128 : decode cX1_step 128 = .ok (.getfield 146, 3) := by decide +kernel
theorem dX1_step_131 : decode cX1_step 131 = .ok (.iload_n 3, 1) := by decide +kernel
theorem dX1_step_132 : decode cX1_step 132 = .ok (.aload_n 0, 1) := by decide +kernel
theorem dX1_step_133 : decode cX1_step 133 = .ok (.iload_n 3, 1) := by decide +kernel
theorem dX1_step_134 : decode cX1_step 134 = .ok (.iconst 0, 1) := by decide +kernel
theorem dX1_step_135 : decode cX1_step 135 = .ok (.invokevirtual 242, 3) := by decide +kernel
theorem dX1_step_138 : decode cX1_step 138 = .ok (.dastore, 1) := by decide +kernel
theorem dX1_step_139 : decode cX1_step 139 = .ok (.aload_n 0, 1) := by decide +kernel
theorem dX1_step_140 : decode cX1_step 140 = .ok (.getfield 149, 3) := by decide +kernel
theorem dX1_step_143 : decode cX1_step 143 = .ok (.iload_n 3, 1) := by decide +kernel
theorem dX1_step_144 : decode cX1_step 144 = .ok (.aload_n 0, 1) := by decide +kernel
theorem dX1_step_145 : decode cX1_step 145 = .ok (.iload_n 3, 1) := by decide +kernel
theorem dX1_step_146 : decode cX1_step 146 = .ok (.iconst 0, 1) := by decide +kernel
theorem dX1_step_147 : decode cX1_step 147 = .ok (.invokevirtual 246, 3) := by decide +kernel
theorem dX1_step_150 : decode cX1_step 150 = .ok (.fastore, 1) := by decide +kernel
theorem dX1_step_151 : decode cX1_step 151 = .ok (.iinc 3 1, 3) := by decide +kernel
theorem dX1_step_154 : decode cX1_step 154 = .ok (.goto (-147), 3) := by decide +kernel
theorem dX1_step_157 : decode cX1_step 157 = .ok (.aload_n 0, 1) := by decide +kernel
theorem dX1_step_158 : decode cX1_step 158 = .ok (.invokevirtual 301, 3) := by decide +kernel
theorem dX1_step_161 : decode cX1_step 161 = .ok (.aload_n 0, 1) := by decide +kernel
theorem dX1_step_162 : decode cX1_step 162 = .ok (.iconst 1, 1) := by decide +kernel
theorem dX1_step_163 : decode cX1_step 163 = .ok (.invokevirtual 304, 3) := by decide +kernel
theorem dX1_step_166 : decode cX1_step 166 = .ok (.aload_n 0, 1) := by decide +kernel
theorem dX1_step_167 : decode cX1_step 167 = .ok (.getfield 210, 3) := by decide +kernel
theorem dX1_step_170 : decode cX1_step 170 = .ok (.ifCond .ne 11, 3) := by decide +kernel
theorem dX1_step_173 : decode cX1_step 173 = .ok (.aload_n 0, 1) := by decide +kernel
theorem dX1_step_174 : decode cX1_step 174 = .ok (.dload_n 1, 1) := by decide +kernel
theorem dX1_step_175 : decode cX1_step 175 = .ok (.invokevirtual 307, 3) := by decide +kernel
theorem dX1_step_178 : decode cX1_step 178 = .ok (.goto 278, 3) := by decide +kernel
theorem dX1_step_181 : decode cX1_step 181 = .ok (.aload_n 0, 1) := by decide +kernel
theorem dX1_step_182 : decode cX1_step 182 = .ok (.getfield 210, 3) := by decide +kernel
theorem dX1_step_185 : decode cX1_step 185 = .ok (.iconst 1, 1) := by decide +kernel
theorem dX1_step_186 : decode cX1_step 186 = .ok (.if_icmp .ne 82, 3) := by decide +kernel
theorem dX1_step_189 : decode cX1_step 189 = .ok (.aload_n 0, 1) := by decide +kernel
theorem dX1_step_190 : decode cX1_step 190 = .ok (.dload_n 1, 1) := by decide +kernel
theorem dX1_step_191 : decode cX1_step 191 = .ok (.invokevirtual 307, 3) := by decide +kernel
theorem dX1_step_194 : decode cX1_step 194 = .ok (.aload_n 0, 1) := by decide +kernel
theorem dX1_step_195 : decode cX1_step 195 = .ok (.invokevirtual 311, 3) := by decide +kernel
theorem dX1_step_198 : decode cX1_step 198 = .ok (.aload_n 0, 1) := by decide +kernel
theorem dX1_step_199 : decode cX1_step 199 = .ok (.invokevirtual 301, 3) := by decide +kernel
theorem dX1_step_202 : decode cX1_step 202 = .ok (.iconst 0, 1) := by decide +kernel
theorem dX1_step_203 : decode cX1_step 203 = .ok (.istore_n 3, 1) := by decide +kernel
theorem dX1_step_204 : decode cX1_step 204 = .ok (.iload_n 3, 1) := by decide +kernel
theorem dX1_step_205 : decode cX1_step 205 = .ok (.aload_n 0, 1) := by decide +kernel
theorem dX1_step_206 : decode cX1_step 206 = .ok (.getfield 158, 3) := by decide +kernel
theorem dX1_step_209 : decode cX1_step 209 = .ok (.if_icmp .ge 47, 3) := by decide +kernel
theorem dX1_step_212 : decode cX1_step 212 = .ok (.aload_n 0, 1) := by decide +kernel
theorem dX1_step_213 : decode cX1_step 213 = .ok (.getfield 152, 3) := by decide +kernel
theorem dX1_step_216 : decode cX1_step 216 = .ok (.iload_n 3, 1) := by decide +kernel
theorem dX1_step_217 : decode cX1_step 217 = .ok (.aload_n 0, 1) := by decide +kernel
theorem dX1_step_218 : decode cX1_step 218 = .ok (.getfield 122, 3) := by decide +kernel
theorem dX1_step_221 : decode cX1_step 221 = .ok (.iload_n 3, 1) := by decide +kernel
theorem dX1_step_222 : decode cX1_step 222 = .ok (.daload, 1) := by decide +kernel
theorem dX1_step_223 : decode cX1_step 223 = .ok (.aload_n 0, 1) := by decide +kernel
theorem dX1_step_224 : decode cX1_step 224 = .ok (.getfield 152, 3) := by decide +kernel
theorem dX1_step_227 : decode cX1_step 227 = .ok (.iload_n 3, 1) := by decide +kernel
theorem dX1_step_228 : decode cX1_step 228 = .ok (.daload, 1) := by decide +kernel
theorem dX1_step_229 : decode cX1_step 229 = .ok (.dadd, 1) := by decide +kernel
theorem dX1_step_230 : decode cX1_step 230 = .ok (.dastore, 1) := by decide +kernel
theorem dX1_step_231 : decode cX1_step 231 = .ok (.aload_n 0, 1) := by decide +kernel
theorem dX1_step_232 : decode cX1_step 232 = .ok (.getfield 155, 3) := by decide +kernel
theorem dX1_step_235 : decode cX1_step 235 = .ok (.iload_n 3, 1) := by decide +kernel
theorem dX1_step_236 : decode cX1_step 236 = .ok (.aload_n 0, 1) := by decide +kernel
theorem dX1_step_237 : decode cX1_step 237 = .ok (.getfield 134, 3) := by decide +kernel
theorem dX1_step_240 : decode cX1_step 240 = .ok (.iload_n 3, 1) := by decide +kernel
theorem dX1_step_241 : decode cX1_step 241 = .ok (.faload, 1) := by decide +kernel
theorem dX1_step_242 : decode cX1_step 242 = .ok (.aload_n 0, 1) := by decide +kernel
theorem dX1_step_243 : decode cX1_step 243 = .ok (.getfield 155, 3) := by decide +kernel
theorem dX1_step_246 : decode cX1_step 246 = .ok (.iload_n 3, 1) := by decide +kernel
theorem dX1_step_247 : decode cX1_step 247 = .ok (.faload, 1) := by decide +kernel
theorem dX1_step_248 : decode cX1_step 248 = .ok (.fadd, 1) := by decide +kernel
theorem dX1_step_249 : decode cX1_step 249 = .ok (.fastore, 1) := by decide +kernel
theorem dX1_step_250 : decode cX1_step 250 = .ok (.iinc 3 1, 3) := by decide +kernel
theorem dX1_step_253 : decode cX1_step 253 = .ok (.goto (-49), 3) := by decide +kernel
theorem dX1_step_256 : decode cX1_step 256 = .ok (.aload_n 0, 1) := by decide +kernel
theorem dX1_step_257 : decode cX1_step 257 = .ok (.dload_n 1, 1) := by decide +kernel
theorem dX1_step_258 : decode cX1_step 258 = .ok (.ldc2_w 314, 3) := by decide +kernel
theorem dX1_step_261 : decode cX1_step 261 = .ok (.ddiv, 1) := by decide +kernel
theorem dX1_step_262 : decode cX1_step 262 = .ok (.invokevirtual 307, 3) := by decide +kernel
theorem dX1_step_265 : decode cX1_step 265 = .ok (.goto 191, 3) := by decide +kernel
theorem dX1_step_268 : decode cX1_step 268 = .ok (.aload_n 0, 1) := by decide +kernel
theorem dX1_step_269 : decode cX1_step 269 = .ok (.dload_n 1, 1) := by decide +kernel
theorem dX1_step_270 : decode cX1_step 270 = .ok (.ldc2_w 314, 3) := by decide +kernel
theorem dX1_step_273 : decode cX1_step 273 = .ok (.ddiv, 1) := by decide +kernel
theorem dX1_step_274 : decode cX1_step 274 = .ok (.invokevirtual 307, 3) := by decide +kernel
theorem dX1_step_277 : decode cX1_step 277 = .ok (.aload_n 0, 1) := by decide +kernel
theorem dX1_step_278 : decode cX1_step 278 = .ok (.invokevirtual 311, 3) := by decide +kernel
theorem dX1_step_281 : decode cX1_step 281 = .ok (.aload_n 0, 1) := by decide +kernel
theorem dX1_step_282 : decode cX1_step 282 = .ok (.invokevirtual 301, 3) := by decide +kernel
theorem dX1_step_285 : decode cX1_step 285 = .ok (.aload_n 0, 1) := by decide +kernel
theorem dX1_step_286 : decode cX1_step 286 = .ok (.iconst 2, 1) := by decide +kernel
theorem dX1_step_287 : decode cX1_step 287 = .ok (.invokevirtual 304, 3) := by decide +kernel
theorem dX1_step_290 : decode cX1_step 290 = .ok (.aload_n 0, 1) := by decide +kernel
theorem dX1_step_291 : decode cX1_step 291 = .ok (.dload_n 1, 1) := by decide +kernel
theorem dX1_step_292 : decode cX1_step 292 = .ok (.ldc2_w 314, 3) := by decide +kernel
theorem dX1_step_295 : decode cX1_step 295 = .ok (.ddiv, 1) := by decide +kernel
theorem dX1_step_296 : decode cX1_step 296 = .ok (.invokevirtual 307, 3) := by decide +kernel
theorem dX1_step_299 : decode cX1_step 299 = .ok (.aload_n 0, 1) := by decide +kernel
theorem dX1_step_300 : decode cX1_step 300 = .ok (.invokevirtual 311, 3) := by decide +kernel
theorem dX1_step_303 : decode cX1_step 303 = .ok (.aload_n 0, 1) := by decide +kernel
theorem dX1_step_304 : decode cX1_step 304 = .ok (.invokevirtual 301, 3) := by decide +kernel
theorem dX1_step_307 : decode cX1_step 307 = .ok (.aload_n 0, 1) := by decide +kernel
theorem dX1_step_308 : decode cX1_step 308 = .ok (.iconst 3, 1) := by decide +kernel
theorem dX1_step_309 : decode cX1_step 309 = .ok (.invokevirtual 304, 3) := by decide +kernel
theorem dX1_step_312 : decode cX1_step 312 = .ok (.aload_n 0, 1) := by decide +kernel
theorem dX1_step_313 : decode cX1_step 313 = .ok (.dload_n 1, 1) := by decide +kernel
theorem dX1_step_314 : decode cX1_step 314 = .ok (.invokevirtual 307, 3) := by decide +kernel
theorem dX1_step_317 : decode cX1_step 317 = .ok (.aload_n 0, 1) := by decide +kernel
theorem dX1_step_318 : decode cX1_step 318 = .ok (.invokevirtual 311, 3) := by decide +kernel
theorem dX1_step_321 : decode cX1_step 321 = .ok (.aload_n 0, 1) := by decide +kernel
theorem dX1_step_322 : decode cX1_step 322 = .ok (.invokevirtual 301, 3) := by decide +kernel
theorem dX1_step_325 : decode cX1_step 325 = .ok (.iconst 0, 1) := by decide +kernel
theorem dX1_step_326 : decode cX1_step 326 = .ok (.istore_n 3, 1) := by decide +kernel
theorem dX1_step_327 : decode cX1_step 327 = .ok (.iload_n 3, 1) := by decide +kernel
theorem dX1_step_328 : decode cX1_step 328 = .ok (.aload_n 0, 1) := by decide +kernel
theorem dX1_step_329 : decode cX1_step 329 = .ok (.getfield 158, 3) := by decide +kernel
theorem dX1_step_332 : decode cX1_step 332 = .ok (.if_icmp .ge 119, 3) := by decide +kernel
theorem dX1_step_335 : decode cX1_step 335 = .ok (.aload_n 0, 1) := by decide +kernel
theorem dX1_step_336 : decode cX1_step 336 = .ok (.getfield 122, 3) := by decide +kernel
theorem dX1_step_339 : decode cX1_step 339 = .ok (.iload_n 3, 1) := by decide +kernel
theorem dX1_step_340 : decode cX1_step 340 = .ok (.daload, 1) := by decide +kernel
theorem dX1_step_341 : decode cX1_step 341 = .ok (.ldc2_w 314, 3) := by decide +kernel
theorem dX1_step_344 : decode cX1_step 344 = .ok (.aload_n 0, 1) := by decide +kernel
theorem dX1_step_345 : decode cX1_step 345 = .ok (.getfield 125, 3) := by decide +kernel
theorem dX1_step_348 : decode cX1_step 348 = .ok (.iload_n 3, 1) := by decide +kernel
theorem dX1_step_349 : decode cX1_step 349 = .ok (.daload, 1) := by decide +kernel
theorem dX1_step_350 : decode cX1_step 350 = .ok (.dmul, 1) := by decide +kernel
theorem dX1_step_351 : decode cX1_step 351 = .ok (.dadd, 1) := by decide +kernel
theorem dX1_step_352 : decode cX1_step 352 = .ok (.dstore 4, 2) := by decide +kernel
theorem dX1_step_354 : decode cX1_step 354 = .ok (.dload 4, 2) := by decide +kernel
theorem dX1_step_356 : decode cX1_step 356 = .ok (.ldc2_w 314, 3) := by decide +kernel
theorem dX1_step_359 : decode cX1_step 359 = .ok (.aload_n 0, 1) := by decide +kernel
theorem dX1_step_360 : decode cX1_step 360 = .ok (.getfield 128, 3) := by decide +kernel
theorem dX1_step_363 : decode cX1_step 363 = .ok (.iload_n 3, 1) := by decide +kernel
theorem dX1_step_364 : decode cX1_step 364 = .ok (.daload, 1) := by decide +kernel
theorem dX1_step_365 : decode cX1_step 365 = .ok (.dmul, 1) := by decide +kernel
theorem dX1_step_366 : decode cX1_step 366 = .ok (.dadd, 1) := by decide +kernel
theorem dX1_step_367 : decode cX1_step 367 = .ok (.dstore 4, 2) := by decide +kernel
theorem dX1_step_369 : decode cX1_step 369 = .ok (.dload 4, 2) := by decide +kernel
theorem dX1_step_371 : decode cX1_step 371 = .ok (.aload_n 0, 1) := by decide +kernel
theorem dX1_step_372 : decode cX1_step 372 = .ok (.getfield 152, 3) := by decide +kernel
theorem dX1_step_375 : decode cX1_step 375 = .ok (.iload_n 3, 1) := by decide +kernel
theorem dX1_step_376 : decode cX1_step 376 = .ok (.daload, 1) := by decide +kernel
theorem dX1_step_377 : decode cX1_step 377 = .ok (.dadd, 1) := by decide +kernel
theorem dX1_step_378 : decode cX1_step 378 = .ok (.dstore 4, 2) := by decide +kernel
theorem dX1_step_380 : decode cX1_step 380 = .ok (.aload_n 0, 1) := by decide +kernel
theorem dX1_step_381 : decode cX1_step 381 = .ok (.getfield 152, 3) := by decide +kernel
theorem dX1_step_384 : decode cX1_step 384 = .ok (.iload_n 3, 1) := by decide +kernel
theorem dX1_step_385 : decode cX1_step 385 = .ok (.dload 4, 2) := by decide +kernel
theorem dX1_step_387 : decode cX1_step 387 = .ok (.ldc2_w 316, 3) := by decide +kernel
theorem dX1_step_390 : decode cX1_step 390 = .ok (.ddiv, 1) := by decide +kernel
theorem dX1_step_391 : decode cX1_step 391 = .ok (.dastore, 1) := by decide +kernel
theorem dX1_step_392 : decode cX1_step 392 = .ok (.aload_n 0, 1) := by decide +kernel
theorem dX1_step_393 : decode cX1_step 393 = .ok (.getfield 134, 3) := by decide +kernel
theorem dX1_step_396 : decode cX1_step 396 = .ok (.iload_n 3, 1) := by decide +kernel
theorem dX1_step_397 : decode cX1_step 397 = .ok (.faload, 1) := by decide +kernel
theorem dX1_step_398 : decode cX1_step 398 = .ok (.fconst 2, 1) := by decide +kernel
theorem dX1_step_399 : decode cX1_step 399 = .ok (.aload_n 0, 1) := by decide +kernel
theorem dX1_step_400 : decode cX1_step 400 = .ok (.getfield 137, 3) := by decide +kernel
theorem dX1_step_403 : decode cX1_step 403 = .ok (.iload_n 3, 1) := by decide +kernel
theorem dX1_step_404 : decode cX1_step 404 = .ok (.faload, 1) := by decide +kernel
theorem dX1_step_405 : decode cX1_step 405 = .ok (.fmul, 1) := by decide +kernel
theorem dX1_step_406 : decode cX1_step 406 = .ok (.fadd, 1) := by decide +kernel
theorem dX1_step_407 : decode cX1_step 407 = .ok (.fstore 6, 2) := by decide +kernel
theorem dX1_step_409 : decode cX1_step 409 = .ok (.fload 6, 2) := by decide +kernel
theorem dX1_step_411 : decode cX1_step 411 = .ok (.fconst 2, 1) := by decide +kernel
theorem dX1_step_412 : decode cX1_step 412 = .ok (.aload_n 0, 1) := by decide +kernel
theorem dX1_step_413 : decode cX1_step 413 = .ok (.getfield 140, 3) := by decide +kernel
theorem dX1_step_416 : decode cX1_step 416 = .ok (.iload_n 3, 1) := by decide +kernel
theorem dX1_step_417 : decode cX1_step 417 = .ok (.faload, 1) := by decide +kernel
theorem dX1_step_418 : decode cX1_step 418 = .ok (.fmul, 1) := by decide +kernel
theorem dX1_step_419 : decode cX1_step 419 = .ok (.fadd, 1) := by decide +kernel
theorem dX1_step_420 : decode cX1_step 420 = .ok (.fstore 6, 2) := by decide +kernel
theorem dX1_step_422 : decode cX1_step 422 = .ok (.fload 6, 2) := by decide +kernel
theorem dX1_step_424 : decode cX1_step 424 = .ok (.aload_n 0, 1) := by decide +kernel
theorem dX1_step_425 : decode cX1_step 425 = .ok (.getfield 155, 3) := by decide +kernel
theorem dX1_step_428 : decode cX1_step 428 = .ok (.iload_n 3, 1) := by decide +kernel
theorem dX1_step_429 : decode cX1_step 429 = .ok (.faload, 1) := by decide +kernel
theorem dX1_step_430 : decode cX1_step 430 = .ok (.fadd, 1) := by decide +kernel
theorem dX1_step_431 : decode cX1_step 431 = .ok (.fstore 6, 2) := by decide +kernel
theorem dX1_step_433 : decode cX1_step 433 = .ok (.aload_n 0, 1) := by decide +kernel
theorem dX1_step_434 : decode cX1_step 434 = .ok (.getfield 155, 3) := by decide +kernel
theorem dX1_step_437 : decode cX1_step 437 = .ok (.iload_n 3, 1) := by decide +kernel
theorem dX1_step_438 : decode cX1_step 438 = .ok (.fload 6, 2) := by decide +kernel
theorem dX1_step_440 : decode cX1_step 440 = .ok (.ldc_w 318, 3) := by decide +kernel
theorem dX1_step_443 : decode cX1_step 443 = .ok (.fdiv, 1) := by decide +kernel
theorem dX1_step_444 : decode cX1_step 444 = .ok (.fastore, 1) := by decide +kernel
theorem dX1_step_445 : decode cX1_step 445 = .ok (.iinc 3 1, 3) := by decide +kernel
theorem dX1_step_448 : decode cX1_step 448 = .ok (.goto (-121), 3) := by decide +kernel
theorem dX1_step_451 : decode cX1_step 451 = .ok (.aload_n 0, 1) := by decide +kernel
theorem dX1_step_452 : decode cX1_step 452 = .ok (.dload_n 1, 1) := by decide +kernel
theorem dX1_step_453 : decode cX1_step 453 = .ok (.invokevirtual 307, 3) := by decide +kernel
theorem dX1_step_456 : decode cX1_step 456 = .ok (.aload_n 0, 1) := by decide +kernel
theorem dX1_step_457 : decode cX1_step 457 = .ok (.invokevirtual 319, 3) := by decide +kernel
theorem dX1_step_460 : decode cX1_step 460 = .ok (.aload_n 0, 1) := by decide +kernel
theorem dX1_step_461 : decode cX1_step 461 = .ok (.dup, 1) := by decide +kernel
theorem dX1_step_462 : decode cX1_step 462 = .ok (.getfield 322, 3) := by decide +kernel
theorem dX1_step_465 : decode cX1_step 465 = .ok (.iconst 1, 1) := by decide +kernel
theorem dX1_step_466 : decode cX1_step 466 = .ok (.iadd, 1) := by decide +kernel
theorem dX1_step_467 : decode cX1_step 467 = .ok (.putfield 322, 3) := by decide +kernel
theorem dX1_step_470 : decode cX1_step 470 = .ok (.aload_n 0, 1) := by decide +kernel
theorem dX1_step_471 : decode cX1_step 471 = .ok (.invokevirtual 311, 3) := by decide +kernel
theorem dX1_step_474 : decode cX1_step 474 = .ok (.iconst 0, 1) := by decide +kernel
theorem dX1_step_475 : decode cX1_step 475 = .ok (.istore_n 3, 1) := by decide +kernel
theorem dX1_step_476 : decode cX1_step 476 = .ok (.iload_n 3, 1) := by decide +kernel
theorem dX1_step_477 : decode cX1_step 477 = .ok (.aload_n 0, 1) := by decide +kernel
theorem dX1_step_478 : decode cX1_step 478 = .ok (.getfield 158, 3) := by decide +kernel
theorem dX1_step_481 : decode cX1_step 481 = .ok (.if_icmp .ge 14, 3) := by decide +kernel
theorem dX1_step_484 : decode cX1_step 484 = .ok (.aload_n 0, 1) := by decide +kernel
theorem dX1_step_485 : decode cX1_step 485 = .ok (.iload_n 3, 1) := by decide +kernel
theorem dX1_step_486 : decode cX1_step 486 = .ok (.invokevirtual 325, 3) := by decide +kernel
theorem dX1_step_489 : decode cX1_step 489 = .ok (.iinc 3 1, 3) := by decide +kernel
theorem dX1_step_492 : decode cX1_step 492 = .ok (.goto (-16), 3) := by decide +kernel
theorem dX1_step_495 : decode cX1_step 495 = .ok (.return_, 1) := by decide +kernel
theorem hd_X1_differ : yX1_differ.cls = RX1 ∧ yX1_differ.cls ≠ "java/lang/invoke/MethodHandle" ∧ yX1_differ.cls ≠ "java/lang/invoke/VarHandle" ∧ (parseMethodDescriptor yX1_differ.desc).map (fun d => d.parameters.length) = some 1 := by decide +kernel
theorem hd_X1_keepRates : yX1_keepRates.cls = RX1 ∧ yX1_keepRates.cls ≠ "java/lang/invoke/MethodHandle" ∧ yX1_keepRates.cls ≠ "java/lang/invoke/VarHandle" ∧ (parseMethodDescriptor yX1_keepRates.desc).map (fun d => d.parameters.length) = some 1 := by decide +kernel
theorem hd_X1_others : yX1_others.cls = RX1 ∧ yX1_others.cls ≠ "java/lang/invoke/MethodHandle" ∧ yX1_others.cls ≠ "java/lang/invoke/VarHandle" ∧ (parseMethodDescriptor yX1_others.desc).map (fun d => d.parameters.length) = some 0 := by decide +kernel
theorem hd_X1_rateAll : yX1_rateAll.cls = RX1 ∧ yX1_rateAll.cls ≠ "java/lang/invoke/MethodHandle" ∧ yX1_rateAll.cls ≠ "java/lang/invoke/VarHandle" ∧ (parseMethodDescriptor yX1_rateAll.desc).map (fun d => d.parameters.length) = some 0 := by decide +kernel
theorem hd_X1_readAll : yX1_readAll.cls = RX1 ∧ yX1_readAll.cls ≠ "java/lang/invoke/MethodHandle" ∧ yX1_readAll.cls ≠ "java/lang/invoke/VarHandle" ∧ (parseMethodDescriptor yX1_readAll.desc).map (fun d => d.parameters.length) = some 0 := by decide +kernel
theorem hd_X1_stage : yX1_stage.cls = RX1 ∧ yX1_stage.cls ≠ "java/lang/invoke/MethodHandle" ∧ yX1_stage.cls ≠ "java/lang/invoke/VarHandle" ∧ (parseMethodDescriptor yX1_stage.desc).map (fun d => d.parameters.length) = some 1 := by decide +kernel
theorem mt_X1_step (l : Launch) (D : va_G) (dA : Nat → ClassId) (ad : Nat → Nat) (C : tp_C) (d : md_T) {t : UInt64} (hC : mOK C) (hV : vOK C) (hA : aOK C) (hL : lvOK (dAI d 10)) (hDl : dlOK C) (hI : iOK C (dAI d 10) d) (hT : dD d 45 = t) (ht : tOK t) (ht2 : tOK (FP.ddiv t 4611686018427387904)) : mC l D dA ad yX1_step cX1_step 7 none 5 [] C d none C (stD C t d) := by
  refine mm_start (by decide) rfl (Nat.le_of_ble_eq_true rfl) ?_
  intro p0 e0 s0 mid bl0 me0 co0 ls S hr hlk G hl
  have hx := S.1; have hb := S.2.1; have hml := S.2.2.1; have hown := S.2.2.2.1; have hts := S.2.2.2.2
  have hl : lv_has ls 7 [(0, .ref (ad 0))] := hl
  have hN := hC.n
  have hR2 := hC.r
  have L1 : ∀ (n_ m : Nat), m ≤ cN C → cN C < m + n_ → ∀ (H : Heap) (locs : List Loc) (ls : Array Slot), mG D dA ad C (tkN C m d) s0 H locs → lv_has ls 7 [(3, .int (nI m)), (1, .double t), (0, .ref (ad 0))] → (∀ (H : Heap) (locs : List Loc) (ls : Array Slot), mG D dA ad C (tkN C (cN C) d) s0 H locs → lv_has ls 7 [(3, .int (nI (cN C))), (1, .double t), (0, .ref (ad 0))] → W p0 l e0 (rm_ 5) s0 mid (Value.ref (ad 0) :: []).toArray bl0 me0 co0 H locs 0 0 (MQ bl0 (mQ D dA ad none C (stD C t d)) (Value.ref (ad 0) :: []).toArray s0 0 0 (mA ad)) (F0 mid 157 ls [])) → W p0 l e0 (rm_ 5) s0 mid (Value.ref (ad 0) :: []).toArray bl0 me0 co0 H locs 0 0 (MQ bl0 (mQ D dA ad none C (stD C t d)) (Value.ref (ad 0) :: []).toArray s0 0 0 (mA ad)) (F0 mid 7 ls []) := by
    intro n_
    induction n_ with
    | zero => intro m h1_ h2_; exact absurd h2_ (by omega)
    | succ n_ ih =>
      intro m h1_ h2_ H locs ls G hl kk
      have hk14 := hC.k m
      refine lv_iload_n hx hb dX1_step_7 rfl (lv_at hl 0 rfl) ?_
      refine lv_aload_n hx hb dX1_step_8 rfl (lv_at hl 2 rfl) ?_
      refine mm_get S G 0 (by decide) q1267 rfl (v := .int (nI (cN C))) rfl dX1_step_9 ?_
      refine nn_cge (tgt := 157) hx hb (by omega) (by omega) dX1_step_12 (by decide) (fun c_12 => ?_) (fun c_12 => ?_)
      · have hiN : m = cN C := by omega
        subst hiN
        exact kk H locs ls G (lv_sub hl [0, 1, 2] rfl)
      · refine lv_aload_n hx hb dX1_step_15 rfl (lv_at hl 2 rfl) ?_
        refine mm_get S G 49 (by decide) q1316 rfl (v := .ref (ad 50)) rfl dX1_step_16 ?_
        refine lv_iload_n hx hb dX1_step_19 rfl (lv_at hl 0 rfl) ?_
        refine lv_aload_n hx hb dX1_step_20 rfl (lv_at hl 2 rfl) ?_
        refine mm_get S G 17 (by decide) q1284 rfl (v := .ref (ad 18)) rfl dX1_step_21 ?_
        refine lv_iload_n hx hb dX1_step_24 rfl (lv_at hl 0 rfl) ?_
        refine mm_dald S G 17 2 (by decide) (n := 20) rfl rfl (by omega) (by decide) (v := dAD (tkN C m d) 17 m) rfl dX1_step_25 ?_
        refine mm_dast S G 49 rfl (by decide) (n := 20) rfl (by omega) dX1_step_26 (fun H locs G => ?_)
        refine lv_aload_n hx hb dX1_step_27 rfl (lv_at hl 2 rfl) ?_
        refine mm_get S G 53 (by decide) q1320 rfl (v := .ref (ad 54)) rfl dX1_step_28 ?_
        refine lv_iload_n hx hb dX1_step_31 rfl (lv_at hl 0 rfl) ?_
        refine lv_aload_n hx hb dX1_step_32 rfl (lv_at hl 2 rfl) ?_
        refine mm_get S G 18 (by decide) q1285 rfl (v := .ref (ad 19)) rfl dX1_step_33 ?_
        refine lv_iload_n hx hb dX1_step_36 rfl (lv_at hl 0 rfl) ?_
        refine mm_fald S G 18 3 (by decide) (n := 20) rfl rfl (by omega) (by decide) (v := dAF (tkN C m d) 18 m) rfl dX1_step_37 ?_
        refine mm_fast S G 53 rfl (by decide) (n := 20) rfl (by omega) dX1_step_38 (fun H locs G => ?_)
        refine lv_aload_n hx hb dX1_step_39 rfl (lv_at hl 2 rfl) ?_
        refine mm_get S G 1 (by decide) q1268 rfl (v := .ref (ad 2)) rfl dX1_step_40 ?_
        refine lv_iload_n hx hb dX1_step_43 rfl (lv_at hl 0 rfl) ?_
        refine mm_iald S G 1 0 (by decide) (n := 20) rfl rfl (by omega) (by decide) (v := nI (cK C m)) rfl dX1_step_44 ?_
        refine lv_iconst (v := nI 3) hx hb dX1_step_45 (by decide) ?_
        refine nn_cne (tgt := 116) hx hb (by omega) (by omega) dX1_step_46 (by decide) (fun c_46 => ?_) (fun c_46 => ?_)
        · refine lv_aload_n hx hb dX1_step_116 rfl (lv_at hl 2 rfl) ?_
          refine mm_get S G 1 (by decide) q1268 rfl (v := .ref (ad 2)) rfl dX1_step_117 ?_
          refine lv_iload_n hx hb dX1_step_120 rfl (lv_at hl 0 rfl) ?_
          refine mm_iald S G 1 0 (by decide) (n := 20) rfl rfl (by omega) (by decide) (v := nI (cK C m)) rfl dX1_step_121 ?_
          refine lv_bipush (v := nI 11) hx hb dX1_step_122 (by decide) ?_
          refine nn_cne (tgt := 151) hx hb (by omega) (by omega) dX1_step_124 (by decide) (fun c_124 => ?_) (fun c_124 => ?_)
          · refine lv_iinc (v := nI (m + 1)) (lv' := [(3, .int (nI (m + 1))), (1, .double t), (0, .ref (ad 0))]) hx hb dX1_step_151 hl (k := 0) rfl (nI_1 _) (by decide) rfl (fun ls hl => ?_)
            refine lv_goto (tgt := 7) hx hb dX1_step_154 (by decide) ?_
            exact ih (m + 1) (by omega) (by omega) H locs ls (mG_d (by show _ = tkS C m (tkN C m d); unfold tkS; rw [if_neg c_46, if_neg c_124]; rfl) G) (lv_sub hl [0, 1, 2] rfl) kk
          · obtain ⟨q0, hq0⟩ := op_some (okM_11 (hA m (by omega)) c_124)
            refine lv_aload_n hx hb dX1_step_127 rfl (lv_at hl 2 rfl) ?_
            refine mm_get S G 54 (by decide) q1321 rfl (v := .ref (ad 55)) rfl dX1_step_128 ?_
            refine lv_iload_n hx hb dX1_step_131 rfl (lv_at hl 0 rfl) ?_
            refine lv_aload_n hx hb dX1_step_132 rfl (lv_at hl 2 rfl) ?_
            refine lv_iload_n hx hb dX1_step_133 rfl (lv_at hl 0 rfl) ?_
            refine lv_iconst (v := nI 0) hx hb dX1_step_134 (by decide) ?_
            refine mm_call (As := [.int (nI m), .int (nI 0)]) (rest := [.int (nI m), .ref (ad 55)]) S G (mt_X1_input l D dA ad C (uAF (uAD (tkN C m d) 49 m (dAD (tkN C m d) 17 m)) 53 m (dAF (tkN C m d) 18 m)) m 0 hC (by omega) (by omega) (by assumption)) q1554 q1556 qs28 q1557 hd_X1_input ⟨Nat.le_of_ble_eq_true rfl, Nat.le_of_ble_eq_true rfl⟩ rfl hl.1 rfl (Nat.le_of_ble_eq_true rfl) dX1_step_135 ⟨Nat.zero_le _, Nat.zero_le _⟩ (fun H locs G => ?_)
            refine W.eq (g2 := F0 mid 138 ls [.double (inD C (dAD (uAF (uAD (tkN C m d) 49 m (dAD (tkN C m d) 17 m)) 53 m (dAF (tkN C m d) 18 m)) 19) m 0), .int (nI m), .ref (ad 55)]) rfl ?_
            refine w_st (st' := [.double (inD C (dAD (tkN C m d) 19) m 0), .int (nI m), .ref (ad 55)]) (by rfl) ?_
            refine mm_dast S G 54 rfl (by decide) (n := 20) rfl (by omega) dX1_step_138 (fun H locs G => ?_)
            refine lv_aload_n hx hb dX1_step_139 rfl (lv_at hl 2 rfl) ?_
            refine mm_get S G 55 (by decide) q1322 rfl (v := .ref (ad 56)) rfl dX1_step_140 ?_
            refine lv_iload_n hx hb dX1_step_143 rfl (lv_at hl 0 rfl) ?_
            refine lv_aload_n hx hb dX1_step_144 rfl (lv_at hl 2 rfl) ?_
            refine lv_iload_n hx hb dX1_step_145 rfl (lv_at hl 0 rfl) ?_
            refine lv_iconst (v := nI 0) hx hb dX1_step_146 (by decide) ?_
            refine mm_call (As := [.int (nI m), .int (nI 0)]) (rest := [.int (nI m), .ref (ad 56)]) S G (mt_X1_inputF l D dA ad C (uAD (uAF (uAD (tkN C m d) 49 m (dAD (tkN C m d) 17 m)) 53 m (dAF (tkN C m d) 18 m)) 54 m (inD C (dAD (tkN C m d) 19) m 0)) m 0 hC (by omega) (by omega) (by assumption)) q1588 q1590 qs34 q1591 hd_X1_inputF ⟨Nat.le_of_ble_eq_true rfl, Nat.le_of_ble_eq_true rfl⟩ rfl hl.1 rfl (Nat.le_of_ble_eq_true rfl) dX1_step_147 ⟨Nat.zero_le _, Nat.zero_le _⟩ (fun H locs G => ?_)
            refine W.eq (g2 := F0 mid 150 ls [.float (inF C (dAF (uAD (uAF (uAD (tkN C m d) 49 m (dAD (tkN C m d) 17 m)) 53 m (dAF (tkN C m d) 18 m)) 54 m (inD C (dAD (tkN C m d) 19) m 0)) 20) m 0), .int (nI m), .ref (ad 56)]) rfl ?_
            refine w_st (st' := [.float (inF C (dAF (tkN C m d) 20) m 0), .int (nI m), .ref (ad 56)]) (by rfl) ?_
            refine mm_fast S G 55 rfl (by decide) (n := 20) rfl (by omega) dX1_step_150 (fun H locs G => ?_)
            refine lv_iinc (v := nI (m + 1)) (lv' := [(3, .int (nI (m + 1))), (1, .double t), (0, .ref (ad 0))]) hx hb dX1_step_151 hl (k := 0) rfl (nI_1 _) (by decide) rfl (fun ls hl => ?_)
            refine lv_goto (tgt := 7) hx hb dX1_step_154 (by decide) ?_
            exact ih (m + 1) (by omega) (by omega) H locs ls (mG_d (by show _ = tkS C m (tkN C m d); unfold tkS; rw [if_neg c_46, if_pos c_124]; rfl) G) (lv_sub hl [0, 1, 2] rfl) kk
        · obtain ⟨⟨q0, hq0⟩, ⟨q1, hq1⟩⟩ := And.imp op_some op_some (okM_3 (hA m (by omega)) c_46)
          refine lv_aload_n hx hb dX1_step_49 rfl (lv_at hl 2 rfl) ?_
          refine mm_get S G 54 (by decide) q1321 rfl (v := .ref (ad 55)) rfl dX1_step_50 ?_
          refine lv_iload_n hx hb dX1_step_53 rfl (lv_at hl 0 rfl) ?_
          refine lv_aload_n hx hb dX1_step_54 rfl (lv_at hl 2 rfl) ?_
          refine lv_iload_n hx hb dX1_step_55 rfl (lv_at hl 0 rfl) ?_
          refine lv_iconst (v := nI 1) hx hb dX1_step_56 (by decide) ?_
          refine mm_call (As := [.int (nI m), .int (nI 1)]) (rest := [.int (nI m), .ref (ad 55)]) S G (mt_X1_input l D dA ad C (uAF (uAD (tkN C m d) 49 m (dAD (tkN C m d) 17 m)) 53 m (dAF (tkN C m d) 18 m)) m 1 hC (by omega) (by omega) (by assumption)) q1554 q1556 qs28 q1557 hd_X1_input ⟨Nat.le_of_ble_eq_true rfl, Nat.le_of_ble_eq_true rfl⟩ rfl hl.1 rfl (Nat.le_of_ble_eq_true rfl) dX1_step_57 ⟨Nat.zero_le _, Nat.zero_le _⟩ (fun H locs G => ?_)
          refine W.eq (g2 := F0 mid 60 ls [.double (inD C (dAD (uAF (uAD (tkN C m d) 49 m (dAD (tkN C m d) 17 m)) 53 m (dAF (tkN C m d) 18 m)) 19) m 1), .int (nI m), .ref (ad 55)]) rfl ?_
          refine w_st (st' := [.double (inD C (dAD (tkN C m d) 19) m 1), .int (nI m), .ref (ad 55)]) (by rfl) ?_
          refine lv_dconst0 hx hb dX1_step_60 ?_
          refine fx_jlle (tgt := 74) hx hb dX1_step_61 dX1_step_62 (by decide) (fun c_62 => ?_) (fun c_62 => ?_)
          · refine lv_aload_n hx hb dX1_step_74 rfl (lv_at hl 2 rfl) ?_
            refine mm_get S G 17 (by decide) q1284 rfl (v := .ref (ad 18)) rfl dX1_step_75 ?_
            refine lv_iload_n hx hb dX1_step_78 rfl (lv_at hl 0 rfl) ?_
            refine mm_dald S G 17 2 (by decide) (n := 20) rfl rfl (by omega) (by decide) (v := dAD (uAF (uAD (tkN C m d) 49 m (dAD (tkN C m d) 17 m)) 53 m (dAF (tkN C m d) 18 m)) 17 m) rfl dX1_step_79 ?_
            refine w_st (st' := [.double (nxD C (tkN C m d) m), .int (nI m), .ref (ad 55)]) (by show [Value.double (dAD (tkN C m d) 17 m), _, _] = _; simp [nxD, c_12, c_46, c_62]) ?_
            refine mm_dast S G 54 rfl (by decide) (n := 20) rfl (by omega) dX1_step_80 (fun H locs G => ?_)
            refine lv_aload_n hx hb dX1_step_81 rfl (lv_at hl 2 rfl) ?_
            refine mm_get S G 55 (by decide) q1322 rfl (v := .ref (ad 56)) rfl dX1_step_82 ?_
            refine lv_iload_n hx hb dX1_step_85 rfl (lv_at hl 0 rfl) ?_
            refine lv_aload_n hx hb dX1_step_86 rfl (lv_at hl 2 rfl) ?_
            refine lv_iload_n hx hb dX1_step_87 rfl (lv_at hl 0 rfl) ?_
            refine lv_iconst (v := nI 1) hx hb dX1_step_88 (by decide) ?_
            refine mm_call (As := [.int (nI m), .int (nI 1)]) (rest := [.int (nI m), .ref (ad 56)]) S G (mt_X1_inputF l D dA ad C (uAD (uAF (uAD (tkN C m d) 49 m (dAD (tkN C m d) 17 m)) 53 m (dAF (tkN C m d) 18 m)) 54 m (nxD C (tkN C m d) m)) m 1 hC (by omega) (by omega) (by assumption)) q1588 q1590 qs34 q1591 hd_X1_inputF ⟨Nat.le_of_ble_eq_true rfl, Nat.le_of_ble_eq_true rfl⟩ rfl hl.1 rfl (Nat.le_of_ble_eq_true rfl) dX1_step_89 ⟨Nat.zero_le _, Nat.zero_le _⟩ (fun H locs G => ?_)
            refine W.eq (g2 := F0 mid 92 ls [.float (inF C (dAF (uAD (uAF (uAD (tkN C m d) 49 m (dAD (tkN C m d) 17 m)) 53 m (dAF (tkN C m d) 18 m)) 54 m (nxD C (tkN C m d) m)) 20) m 1), .int (nI m), .ref (ad 56)]) rfl ?_
            refine w_st (st' := [.float (inF C (dAF (tkN C m d) 20) m 1), .int (nI m), .ref (ad 56)]) (by rfl) ?_
            refine lv_fconst0 hx hb dX1_step_92 ?_
            refine fy_jlle (tgt := 106) hx hb dX1_step_93 dX1_step_94 (by decide) (fun c_94 => ?_) (fun c_94 => ?_)
            · refine lv_aload_n hx hb dX1_step_106 rfl (lv_at hl 2 rfl) ?_
              refine mm_get S G 18 (by decide) q1285 rfl (v := .ref (ad 19)) rfl dX1_step_107 ?_
              refine lv_iload_n hx hb dX1_step_110 rfl (lv_at hl 0 rfl) ?_
              refine mm_fald S G 18 3 (by decide) (n := 20) rfl rfl (by omega) (by decide) (v := dAF (uAD (uAF (uAD (tkN C m d) 49 m (dAD (tkN C m d) 17 m)) 53 m (dAF (tkN C m d) 18 m)) 54 m (nxD C (tkN C m d) m)) 18 m) rfl dX1_step_111 ?_
              refine w_st (st' := [.float (nxF C (tkN C m d) m), .int (nI m), .ref (ad 56)]) (by show [Value.float (dAF (tkN C m d) 18 m), _, _] = _; simp [nxF, c_12, c_46, c_62, c_94]) ?_
              refine mm_fast S G 55 rfl (by decide) (n := 20) rfl (by omega) dX1_step_112 (fun H locs G => ?_)
              refine lv_goto (tgt := 151) hx hb dX1_step_113 (by decide) ?_
              refine lv_iinc (v := nI (m + 1)) (lv' := [(3, .int (nI (m + 1))), (1, .double t), (0, .ref (ad 0))]) hx hb dX1_step_151 hl (k := 0) rfl (nI_1 _) (by decide) rfl (fun ls hl => ?_)
              refine lv_goto (tgt := 7) hx hb dX1_step_154 (by decide) ?_
              exact ih (m + 1) (by omega) (by omega) H locs ls (mG_d (by show _ = tkS C m (tkN C m d); unfold tkS; rw [if_pos c_46]; rfl) G) (lv_sub hl [0, 1, 2] rfl) kk
            · refine lv_aload_n hx hb dX1_step_97 rfl (lv_at hl 2 rfl) ?_
              refine lv_iload_n hx hb dX1_step_98 rfl (lv_at hl 0 rfl) ?_
              refine lv_iconst (v := nI 0) hx hb dX1_step_99 (by decide) ?_
              refine mm_call (As := [.int (nI m), .int (nI 0)]) (rest := [.int (nI m), .ref (ad 56)]) S G (mt_X1_inputF l D dA ad C (uAD (uAF (uAD (tkN C m d) 49 m (dAD (tkN C m d) 17 m)) 53 m (dAF (tkN C m d) 18 m)) 54 m (nxD C (tkN C m d) m)) m 0 hC (by omega) (by omega) (by assumption)) q1588 q1590 qs34 q1591 hd_X1_inputF ⟨Nat.le_of_ble_eq_true rfl, Nat.le_of_ble_eq_true rfl⟩ rfl hl.1 rfl (Nat.le_of_ble_eq_true rfl) dX1_step_100 ⟨Nat.zero_le _, Nat.zero_le _⟩ (fun H locs G => ?_)
              refine W.eq (g2 := F0 mid 103 ls [.float (inF C (dAF (uAD (uAF (uAD (tkN C m d) 49 m (dAD (tkN C m d) 17 m)) 53 m (dAF (tkN C m d) 18 m)) 54 m (nxD C (tkN C m d) m)) 20) m 0), .int (nI m), .ref (ad 56)]) rfl ?_
              refine w_st (st' := [.float (nxF C (tkN C m d) m), .int (nI m), .ref (ad 56)]) (by show [Value.float (inF C (dAF (tkN C m d) 20) m 0), _, _] = _; simp [nxF, c_12, c_46, c_62, c_94]) ?_
              refine lv_goto (tgt := 112) hx hb dX1_step_103 (by decide) ?_
              refine mm_fast S G 55 rfl (by decide) (n := 20) rfl (by omega) dX1_step_112 (fun H locs G => ?_)
              refine lv_goto (tgt := 151) hx hb dX1_step_113 (by decide) ?_
              refine lv_iinc (v := nI (m + 1)) (lv' := [(3, .int (nI (m + 1))), (1, .double t), (0, .ref (ad 0))]) hx hb dX1_step_151 hl (k := 0) rfl (nI_1 _) (by decide) rfl (fun ls hl => ?_)
              refine lv_goto (tgt := 7) hx hb dX1_step_154 (by decide) ?_
              exact ih (m + 1) (by omega) (by omega) H locs ls (mG_d (by show _ = tkS C m (tkN C m d); unfold tkS; rw [if_pos c_46]; rfl) G) (lv_sub hl [0, 1, 2] rfl) kk
          · refine lv_aload_n hx hb dX1_step_65 rfl (lv_at hl 2 rfl) ?_
            refine lv_iload_n hx hb dX1_step_66 rfl (lv_at hl 0 rfl) ?_
            refine lv_iconst (v := nI 0) hx hb dX1_step_67 (by decide) ?_
            refine mm_call (As := [.int (nI m), .int (nI 0)]) (rest := [.int (nI m), .ref (ad 55)]) S G (mt_X1_input l D dA ad C (uAF (uAD (tkN C m d) 49 m (dAD (tkN C m d) 17 m)) 53 m (dAF (tkN C m d) 18 m)) m 0 hC (by omega) (by omega) (by assumption)) q1554 q1556 qs28 q1557 hd_X1_input ⟨Nat.le_of_ble_eq_true rfl, Nat.le_of_ble_eq_true rfl⟩ rfl hl.1 rfl (Nat.le_of_ble_eq_true rfl) dX1_step_68 ⟨Nat.zero_le _, Nat.zero_le _⟩ (fun H locs G => ?_)
            refine W.eq (g2 := F0 mid 71 ls [.double (inD C (dAD (uAF (uAD (tkN C m d) 49 m (dAD (tkN C m d) 17 m)) 53 m (dAF (tkN C m d) 18 m)) 19) m 0), .int (nI m), .ref (ad 55)]) rfl ?_
            refine w_st (st' := [.double (nxD C (tkN C m d) m), .int (nI m), .ref (ad 55)]) (by show [Value.double (inD C (dAD (tkN C m d) 19) m 0), _, _] = _; simp [nxD, c_12, c_46, c_62]) ?_
            refine lv_goto (tgt := 80) hx hb dX1_step_71 (by decide) ?_
            refine mm_dast S G 54 rfl (by decide) (n := 20) rfl (by omega) dX1_step_80 (fun H locs G => ?_)
            refine lv_aload_n hx hb dX1_step_81 rfl (lv_at hl 2 rfl) ?_
            refine mm_get S G 55 (by decide) q1322 rfl (v := .ref (ad 56)) rfl dX1_step_82 ?_
            refine lv_iload_n hx hb dX1_step_85 rfl (lv_at hl 0 rfl) ?_
            refine lv_aload_n hx hb dX1_step_86 rfl (lv_at hl 2 rfl) ?_
            refine lv_iload_n hx hb dX1_step_87 rfl (lv_at hl 0 rfl) ?_
            refine lv_iconst (v := nI 1) hx hb dX1_step_88 (by decide) ?_
            refine mm_call (As := [.int (nI m), .int (nI 1)]) (rest := [.int (nI m), .ref (ad 56)]) S G (mt_X1_inputF l D dA ad C (uAD (uAF (uAD (tkN C m d) 49 m (dAD (tkN C m d) 17 m)) 53 m (dAF (tkN C m d) 18 m)) 54 m (nxD C (tkN C m d) m)) m 1 hC (by omega) (by omega) (by assumption)) q1588 q1590 qs34 q1591 hd_X1_inputF ⟨Nat.le_of_ble_eq_true rfl, Nat.le_of_ble_eq_true rfl⟩ rfl hl.1 rfl (Nat.le_of_ble_eq_true rfl) dX1_step_89 ⟨Nat.zero_le _, Nat.zero_le _⟩ (fun H locs G => ?_)
            refine W.eq (g2 := F0 mid 92 ls [.float (inF C (dAF (uAD (uAF (uAD (tkN C m d) 49 m (dAD (tkN C m d) 17 m)) 53 m (dAF (tkN C m d) 18 m)) 54 m (nxD C (tkN C m d) m)) 20) m 1), .int (nI m), .ref (ad 56)]) rfl ?_
            refine w_st (st' := [.float (inF C (dAF (tkN C m d) 20) m 1), .int (nI m), .ref (ad 56)]) (by rfl) ?_
            refine lv_fconst0 hx hb dX1_step_92 ?_
            refine fy_jlle (tgt := 106) hx hb dX1_step_93 dX1_step_94 (by decide) (fun c_94 => ?_) (fun c_94 => ?_)
            · refine lv_aload_n hx hb dX1_step_106 rfl (lv_at hl 2 rfl) ?_
              refine mm_get S G 18 (by decide) q1285 rfl (v := .ref (ad 19)) rfl dX1_step_107 ?_
              refine lv_iload_n hx hb dX1_step_110 rfl (lv_at hl 0 rfl) ?_
              refine mm_fald S G 18 3 (by decide) (n := 20) rfl rfl (by omega) (by decide) (v := dAF (uAD (uAF (uAD (tkN C m d) 49 m (dAD (tkN C m d) 17 m)) 53 m (dAF (tkN C m d) 18 m)) 54 m (nxD C (tkN C m d) m)) 18 m) rfl dX1_step_111 ?_
              refine w_st (st' := [.float (nxF C (tkN C m d) m), .int (nI m), .ref (ad 56)]) (by show [Value.float (dAF (tkN C m d) 18 m), _, _] = _; simp [nxF, c_12, c_46, c_62, c_94]) ?_
              refine mm_fast S G 55 rfl (by decide) (n := 20) rfl (by omega) dX1_step_112 (fun H locs G => ?_)
              refine lv_goto (tgt := 151) hx hb dX1_step_113 (by decide) ?_
              refine lv_iinc (v := nI (m + 1)) (lv' := [(3, .int (nI (m + 1))), (1, .double t), (0, .ref (ad 0))]) hx hb dX1_step_151 hl (k := 0) rfl (nI_1 _) (by decide) rfl (fun ls hl => ?_)
              refine lv_goto (tgt := 7) hx hb dX1_step_154 (by decide) ?_
              exact ih (m + 1) (by omega) (by omega) H locs ls (mG_d (by show _ = tkS C m (tkN C m d); unfold tkS; rw [if_pos c_46]; rfl) G) (lv_sub hl [0, 1, 2] rfl) kk
            · refine lv_aload_n hx hb dX1_step_97 rfl (lv_at hl 2 rfl) ?_
              refine lv_iload_n hx hb dX1_step_98 rfl (lv_at hl 0 rfl) ?_
              refine lv_iconst (v := nI 0) hx hb dX1_step_99 (by decide) ?_
              refine mm_call (As := [.int (nI m), .int (nI 0)]) (rest := [.int (nI m), .ref (ad 56)]) S G (mt_X1_inputF l D dA ad C (uAD (uAF (uAD (tkN C m d) 49 m (dAD (tkN C m d) 17 m)) 53 m (dAF (tkN C m d) 18 m)) 54 m (nxD C (tkN C m d) m)) m 0 hC (by omega) (by omega) (by assumption)) q1588 q1590 qs34 q1591 hd_X1_inputF ⟨Nat.le_of_ble_eq_true rfl, Nat.le_of_ble_eq_true rfl⟩ rfl hl.1 rfl (Nat.le_of_ble_eq_true rfl) dX1_step_100 ⟨Nat.zero_le _, Nat.zero_le _⟩ (fun H locs G => ?_)
              refine W.eq (g2 := F0 mid 103 ls [.float (inF C (dAF (uAD (uAF (uAD (tkN C m d) 49 m (dAD (tkN C m d) 17 m)) 53 m (dAF (tkN C m d) 18 m)) 54 m (nxD C (tkN C m d) m)) 20) m 0), .int (nI m), .ref (ad 56)]) rfl ?_
              refine w_st (st' := [.float (nxF C (tkN C m d) m), .int (nI m), .ref (ad 56)]) (by show [Value.float (inF C (dAF (tkN C m d) 20) m 0), _, _] = _; simp [nxF, c_12, c_46, c_62, c_94]) ?_
              refine lv_goto (tgt := 112) hx hb dX1_step_103 (by decide) ?_
              refine mm_fast S G 55 rfl (by decide) (n := 20) rfl (by omega) dX1_step_112 (fun H locs G => ?_)
              refine lv_goto (tgt := 151) hx hb dX1_step_113 (by decide) ?_
              refine lv_iinc (v := nI (m + 1)) (lv' := [(3, .int (nI (m + 1))), (1, .double t), (0, .ref (ad 0))]) hx hb dX1_step_151 hl (k := 0) rfl (nI_1 _) (by decide) rfl (fun ls hl => ?_)
              refine lv_goto (tgt := 7) hx hb dX1_step_154 (by decide) ?_
              exact ih (m + 1) (by omega) (by omega) H locs ls (mG_d (by show _ = tkS C m (tkN C m d); unfold tkS; rw [if_pos c_46]; rfl) G) (lv_sub hl [0, 1, 2] rfl) kk
  have L2 : ∀ (e : md_T) (ge : gOK e) (he : hOK e) (n_ i : Nat), i ≤ cN C → cN C < i + n_ → ∀ (H : Heap) (locs : List Loc) (ls : Array Slot), mG D dA ad C (c1I e i) s0 H locs → lv_has ls 7 [(3, .int (nI i)), (1, .double t), (0, .ref (ad 0))] → (∀ (H : Heap) (locs : List Loc) (ls : Array Slot), mG D dA ad C (c1I e (cN C)) s0 H locs → lv_has ls 7 [(3, .int (nI (cN C))), (1, .double t), (0, .ref (ad 0))] → W p0 l e0 (rm_ 5) s0 mid (Value.ref (ad 0) :: []).toArray bl0 me0 co0 H locs 0 0 (MQ bl0 (mQ D dA ad none C (stD C t d)) (Value.ref (ad 0) :: []).toArray s0 0 0 (mA ad)) (F0 mid 256 ls [])) → W p0 l e0 (rm_ 5) s0 mid (Value.ref (ad 0) :: []).toArray bl0 me0 co0 H locs 0 0 (MQ bl0 (mQ D dA ad none C (stD C t d)) (Value.ref (ad 0) :: []).toArray s0 0 0 (mA ad)) (F0 mid 204 ls []) := by
    intro e ge he n_
    induction n_ with
    | zero => intro i h1_ h2_; exact absurd h2_ (by omega)
    | succ n_ ih =>
      intro i h1_ h2_ H locs ls G hl kk
      refine lv_iload_n hx hb dX1_step_204 rfl (lv_at hl 0 rfl) ?_
      refine lv_aload_n hx hb dX1_step_205 rfl (lv_at hl 2 rfl) ?_
      refine mm_get S G 0 (by decide) q1267 rfl (v := .int (nI (cN C))) rfl dX1_step_206 ?_
      refine nn_cge (tgt := 256) hx hb (by omega) (by omega) dX1_step_209 (by decide) (fun c_209 => ?_) (fun c_209 => ?_)
      · have hiN : i = cN C := by omega
        subst hiN
        exact kk H locs ls G (lv_sub hl [0, 1, 2] rfl)
      · refine lv_aload_n hx hb dX1_step_212 rfl (lv_at hl 2 rfl) ?_
        refine mm_get S G 56 (by decide) q1323 rfl (v := .ref (ad 57)) rfl dX1_step_213 ?_
        refine lv_iload_n hx hb dX1_step_216 rfl (lv_at hl 0 rfl) ?_
        refine lv_aload_n hx hb dX1_step_217 rfl (lv_at hl 2 rfl) ?_
        refine mm_get S G 46 (by decide) q1313 rfl (v := .ref (ad 47)) rfl dX1_step_218 ?_
        refine lv_iload_n hx hb dX1_step_221 rfl (lv_at hl 0 rfl) ?_
        refine mm_dald S G 46 2 (by decide) (n := 20) rfl rfl (by omega) (by decide) (v := dAD e 46 i) rfl dX1_step_222 ?_
        refine lv_aload_n hx hb dX1_step_223 rfl (lv_at hl 2 rfl) ?_
        refine mm_get S G 56 (by decide) q1323 rfl (v := .ref (ad 57)) rfl dX1_step_224 ?_
        refine lv_iload_n hx hb dX1_step_227 rfl (lv_at hl 0 rfl) ?_
        refine mm_dald S G 56 2 (by decide) (n := 20) rfl rfl (by omega) (by decide) (v := dAD e 56 i) (pm_at _ _ _) dX1_step_228 ?_
        refine lv_dadd hx hb dX1_step_229 (bD_n (c1_b ge he i)) ?_
        refine w_st (st' := [.double (c1G e i), .int (nI i), .ref (ad 57)]) (by rfl) ?_
        refine mm_dast S G 56 rfl (by decide) (n := 20) rfl (by omega) dX1_step_230 (fun H locs G => ?_)
        refine lv_aload_n hx hb dX1_step_231 rfl (lv_at hl 2 rfl) ?_
        refine mm_get S G 57 (by decide) q1324 rfl (v := .ref (ad 58)) rfl dX1_step_232 ?_
        refine lv_iload_n hx hb dX1_step_235 rfl (lv_at hl 0 rfl) ?_
        refine lv_aload_n hx hb dX1_step_236 rfl (lv_at hl 2 rfl) ?_
        refine mm_get S G 50 (by decide) q1317 rfl (v := .ref (ad 51)) rfl dX1_step_237 ?_
        refine lv_iload_n hx hb dX1_step_240 rfl (lv_at hl 0 rfl) ?_
        refine mm_fald S G 50 3 (by decide) (n := 20) rfl rfl (by omega) (by decide) (v := dAF e 50 i) rfl dX1_step_241 ?_
        refine lv_aload_n hx hb dX1_step_242 rfl (lv_at hl 2 rfl) ?_
        refine mm_get S G 57 (by decide) q1324 rfl (v := .ref (ad 58)) rfl dX1_step_243 ?_
        refine lv_iload_n hx hb dX1_step_246 rfl (lv_at hl 0 rfl) ?_
        refine mm_fald S G 57 3 (by decide) (n := 20) rfl rfl (by omega) (by decide) (v := dAF e 57 i) (pm_at _ _ _) dX1_step_247 ?_
        refine lv_fadd hx hb dX1_step_248 (bF_n (c1_bF ge he i)) ?_
        refine w_st (st' := [.float (c1F e i), .int (nI i), .ref (ad 58)]) (by rfl) ?_
        refine mm_fast S G 57 rfl (by decide) (n := 20) rfl (by omega) dX1_step_249 (fun H locs G => ?_)
        refine lv_iinc (v := nI (i + 1)) (lv' := [(3, .int (nI (i + 1))), (1, .double t), (0, .ref (ad 0))]) hx hb dX1_step_250 hl (k := 0) rfl (nI_1 _) (by decide) rfl (fun ls hl => ?_)
        refine lv_goto (tgt := 204) hx hb dX1_step_253 (by decide) ?_
        exact ih (i + 1) (by omega) (by omega) H locs ls (mG_d (by exact c1I_s e i) G) (lv_sub hl [0, 1, 2] rfl) kk
  have L3 : ∀ (e : md_T) (ge : gOK e) (he : hOK e) (n_ i : Nat), i ≤ cN C → cN C < i + n_ → ∀ (H : Heap) (locs : List Loc) (ls : Array Slot), mG D dA ad C (c2I e i) s0 H locs → lv_has ls 7 [(3, .int (nI i)), (1, .double t), (0, .ref (ad 0))] → (∀ (H : Heap) (locs : List Loc) (ls : Array Slot), mG D dA ad C (c2I e (cN C)) s0 H locs → lv_has ls 7 [(3, .int (nI (cN C))), (1, .double t), (0, .ref (ad 0))] → W p0 l e0 (rm_ 5) s0 mid (Value.ref (ad 0) :: []).toArray bl0 me0 co0 H locs 0 0 (MQ bl0 (mQ D dA ad none C (stD C t d)) (Value.ref (ad 0) :: []).toArray s0 0 0 (mA ad)) (F0 mid 451 ls [])) → W p0 l e0 (rm_ 5) s0 mid (Value.ref (ad 0) :: []).toArray bl0 me0 co0 H locs 0 0 (MQ bl0 (mQ D dA ad none C (stD C t d)) (Value.ref (ad 0) :: []).toArray s0 0 0 (mA ad)) (F0 mid 327 ls []) := by
    intro e ge he n_
    induction n_ with
    | zero => intro i h1_ h2_; exact absurd h2_ (by omega)
    | succ n_ ih =>
      intro i h1_ h2_ H locs ls G hl kk
      refine lv_iload_n hx hb dX1_step_327 rfl (lv_at hl 0 rfl) ?_
      refine lv_aload_n hx hb dX1_step_328 rfl (lv_at hl 2 rfl) ?_
      refine mm_get S G 0 (by decide) q1267 rfl (v := .int (nI (cN C))) rfl dX1_step_329 ?_
      refine nn_cge (tgt := 451) hx hb (by omega) (by omega) dX1_step_332 (by decide) (fun c_332 => ?_) (fun c_332 => ?_)
      · have hiN : i = cN C := by omega
        subst hiN
        exact kk H locs ls G (lv_sub hl [0, 1, 2] rfl)
      · refine lv_aload_n hx hb dX1_step_335 rfl (lv_at hl 2 rfl) ?_
        refine mm_get S G 46 (by decide) q1313 rfl (v := .ref (ad 47)) rfl dX1_step_336 ?_
        refine lv_iload_n hx hb dX1_step_339 rfl (lv_at hl 0 rfl) ?_
        refine mm_dald S G 46 2 (by decide) (n := 20) rfl rfl (by omega) (by decide) (v := dAD e 46 i) rfl dX1_step_340 ?_
        refine lv_ldc2d hx hb hown (hts _ q1627) dX1_step_341 ?_
        refine lv_aload_n hx hb dX1_step_344 rfl (lv_at hl 2 rfl) ?_
        refine mm_get S G 47 (by decide) q1314 rfl (v := .ref (ad 48)) rfl dX1_step_345 ?_
        refine lv_iload_n hx hb dX1_step_348 rfl (lv_at hl 0 rfl) ?_
        refine mm_dald S G 47 2 (by decide) (n := 20) rfl rfl (by omega) (by decide) (v := dAD e 47 i) rfl dX1_step_349 ?_
        refine lv_dmul hx hb dX1_step_350 (bD_n (c2_1 ge i)) ?_
        refine lv_dadd hx hb dX1_step_351 (bD_n (c2_2 ge i)) ?_
        refine lv_dstore (lv' := [(4, .double (FP.dadd (dAD e 46 i) (FP.dmul 4611686018427387904 (dAD e 47 i)))), (3, .int (nI i)), (1, .double t), (0, .ref (ad 0))]) hx hb dX1_step_352 hl (by decide) rfl (fun ls hl => ?_)
        refine lv_dload hx hb dX1_step_354 (lv_at hl 0 rfl) ?_
        refine lv_ldc2d hx hb hown (hts _ q1627) dX1_step_356 ?_
        refine lv_aload_n hx hb dX1_step_359 rfl (lv_at hl 3 rfl) ?_
        refine mm_get S G 48 (by decide) q1315 rfl (v := .ref (ad 49)) rfl dX1_step_360 ?_
        refine lv_iload_n hx hb dX1_step_363 rfl (lv_at hl 1 rfl) ?_
        refine mm_dald S G 48 2 (by decide) (n := 20) rfl rfl (by omega) (by decide) (v := dAD e 48 i) rfl dX1_step_364 ?_
        refine lv_dmul hx hb dX1_step_365 (bD_n (c2_3 ge i)) ?_
        refine lv_dadd hx hb dX1_step_366 (bD_n (c2_4 ge i)) ?_
        refine lv_dstore (lv' := [(4, .double (FP.dadd (FP.dadd (dAD e 46 i) (FP.dmul 4611686018427387904 (dAD e 47 i))) (FP.dmul 4611686018427387904 (dAD e 48 i)))), (3, .int (nI i)), (1, .double t), (0, .ref (ad 0))]) hx hb dX1_step_367 hl (by decide) rfl (fun ls hl => ?_)
        refine lv_dload hx hb dX1_step_369 (lv_at hl 0 rfl) ?_
        refine lv_aload_n hx hb dX1_step_371 rfl (lv_at hl 3 rfl) ?_
        refine mm_get S G 56 (by decide) q1323 rfl (v := .ref (ad 57)) rfl dX1_step_372 ?_
        refine lv_iload_n hx hb dX1_step_375 rfl (lv_at hl 1 rfl) ?_
        refine mm_dald S G 56 2 (by decide) (n := 20) rfl rfl (by omega) (by decide) (v := dAD e 56 i) (pm_at _ _ _) dX1_step_376 ?_
        refine lv_dadd hx hb dX1_step_377 (bD_n (c2_5 ge he i)) ?_
        refine lv_dstore (lv' := [(4, .double (FP.dadd (FP.dadd (FP.dadd (dAD e 46 i) (FP.dmul 4611686018427387904 (dAD e 47 i))) (FP.dmul 4611686018427387904 (dAD e 48 i))) (dAD e 56 i))), (3, .int (nI i)), (1, .double t), (0, .ref (ad 0))]) hx hb dX1_step_378 hl (by decide) rfl (fun ls hl => ?_)
        refine lv_aload_n hx hb dX1_step_380 rfl (lv_at hl 3 rfl) ?_
        refine mm_get S G 56 (by decide) q1323 rfl (v := .ref (ad 57)) rfl dX1_step_381 ?_
        refine lv_iload_n hx hb dX1_step_384 rfl (lv_at hl 1 rfl) ?_
        refine lv_dload hx hb dX1_step_385 (lv_at hl 0 rfl) ?_
        refine lv_ldc2d hx hb hown (hts _ q1644) dX1_step_387 ?_
        refine lv_ddiv hx hb dX1_step_390 (c2_n ge he i) ?_
        refine w_st (st' := [.double (c2G e i), .int (nI i), .ref (ad 57)]) (by rfl) ?_
        refine mm_dast S G 56 rfl (by decide) (n := 20) rfl (by omega) dX1_step_391 (fun H locs G => ?_)
        refine lv_aload_n hx hb dX1_step_392 rfl (lv_at hl 3 rfl) ?_
        refine mm_get S G 50 (by decide) q1317 rfl (v := .ref (ad 51)) rfl dX1_step_393 ?_
        refine lv_iload_n hx hb dX1_step_396 rfl (lv_at hl 1 rfl) ?_
        refine mm_fald S G 50 3 (by decide) (n := 20) rfl rfl (by omega) (by decide) (v := dAF e 50 i) rfl dX1_step_397 ?_
        refine lv_fconst2 hx hb dX1_step_398 ?_
        refine lv_aload_n hx hb dX1_step_399 rfl (lv_at hl 3 rfl) ?_
        refine mm_get S G 51 (by decide) q1318 rfl (v := .ref (ad 52)) rfl dX1_step_400 ?_
        refine lv_iload_n hx hb dX1_step_403 rfl (lv_at hl 1 rfl) ?_
        refine mm_fald S G 51 3 (by decide) (n := 20) rfl rfl (by omega) (by decide) (v := dAF e 51 i) rfl dX1_step_404 ?_
        refine lv_fmul hx hb dX1_step_405 (bF_n (c2_1F ge i)) ?_
        refine lv_fadd hx hb dX1_step_406 (bF_n (c2_2F ge i)) ?_
        refine lv_fstore (lv' := [(6, .float (FP.fadd (dAF e 50 i) (FP.fmul FP.fconst2 (dAF e 51 i)))), (4, .double (FP.dadd (FP.dadd (FP.dadd (dAD e 46 i) (FP.dmul 4611686018427387904 (dAD e 47 i))) (FP.dmul 4611686018427387904 (dAD e 48 i))) (dAD e 56 i))), (3, .int (nI i)), (1, .double t), (0, .ref (ad 0))]) hx hb dX1_step_407 hl (by decide) rfl (fun ls hl => ?_)
        refine lv_fload hx hb dX1_step_409 (lv_at hl 0 rfl) ?_
        refine lv_fconst2 hx hb dX1_step_411 ?_
        refine lv_aload_n hx hb dX1_step_412 rfl (lv_at hl 4 rfl) ?_
        refine mm_get S G 52 (by decide) q1319 rfl (v := .ref (ad 53)) rfl dX1_step_413 ?_
        refine lv_iload_n hx hb dX1_step_416 rfl (lv_at hl 2 rfl) ?_
        refine mm_fald S G 52 3 (by decide) (n := 20) rfl rfl (by omega) (by decide) (v := dAF e 52 i) rfl dX1_step_417 ?_
        refine lv_fmul hx hb dX1_step_418 (bF_n (c2_3F ge i)) ?_
        refine lv_fadd hx hb dX1_step_419 (bF_n (c2_4F ge i)) ?_
        refine lv_fstore (lv' := [(6, .float (FP.fadd (FP.fadd (dAF e 50 i) (FP.fmul FP.fconst2 (dAF e 51 i))) (FP.fmul FP.fconst2 (dAF e 52 i)))), (4, .double (FP.dadd (FP.dadd (FP.dadd (dAD e 46 i) (FP.dmul 4611686018427387904 (dAD e 47 i))) (FP.dmul 4611686018427387904 (dAD e 48 i))) (dAD e 56 i))), (3, .int (nI i)), (1, .double t), (0, .ref (ad 0))]) hx hb dX1_step_420 hl (by decide) rfl (fun ls hl => ?_)
        refine lv_fload hx hb dX1_step_422 (lv_at hl 0 rfl) ?_
        refine lv_aload_n hx hb dX1_step_424 rfl (lv_at hl 4 rfl) ?_
        refine mm_get S G 57 (by decide) q1324 rfl (v := .ref (ad 58)) rfl dX1_step_425 ?_
        refine lv_iload_n hx hb dX1_step_428 rfl (lv_at hl 2 rfl) ?_
        refine mm_fald S G 57 3 (by decide) (n := 20) rfl rfl (by omega) (by decide) (v := dAF e 57 i) (pm_at _ _ _) dX1_step_429 ?_
        refine lv_fadd hx hb dX1_step_430 (bF_n (c2_5F ge he i)) ?_
        refine lv_fstore (lv' := [(6, .float (FP.fadd (FP.fadd (FP.fadd (dAF e 50 i) (FP.fmul FP.fconst2 (dAF e 51 i))) (FP.fmul FP.fconst2 (dAF e 52 i))) (dAF e 57 i))), (4, .double (FP.dadd (FP.dadd (FP.dadd (dAD e 46 i) (FP.dmul 4611686018427387904 (dAD e 47 i))) (FP.dmul 4611686018427387904 (dAD e 48 i))) (dAD e 56 i))), (3, .int (nI i)), (1, .double t), (0, .ref (ad 0))]) hx hb dX1_step_431 hl (by decide) rfl (fun ls hl => ?_)
        refine lv_aload_n hx hb dX1_step_433 rfl (lv_at hl 4 rfl) ?_
        refine mm_get S G 57 (by decide) q1324 rfl (v := .ref (ad 58)) rfl dX1_step_434 ?_
        refine lv_iload_n hx hb dX1_step_437 rfl (lv_at hl 2 rfl) ?_
        refine lv_fload hx hb dX1_step_438 (lv_at hl 0 rfl) ?_
        refine lv_ldcfw hx hb hown (hts _ q1645) dX1_step_440 ?_
        refine lv_fdiv hx hb dX1_step_443 (c2_nF ge he i) ?_
        refine w_st (st' := [.float (c2F e i), .int (nI i), .ref (ad 58)]) (by rfl) ?_
        refine mm_fast S G 57 rfl (by decide) (n := 20) rfl (by omega) dX1_step_444 (fun H locs G => ?_)
        refine lv_iinc (v := nI (i + 1)) (lv' := [(3, .int (nI (i + 1))), (6, .float (FP.fadd (FP.fadd (FP.fadd (dAF e 50 i) (FP.fmul FP.fconst2 (dAF e 51 i))) (FP.fmul FP.fconst2 (dAF e 52 i))) (dAF e 57 i))), (4, .double (FP.dadd (FP.dadd (FP.dadd (dAD e 46 i) (FP.dmul 4611686018427387904 (dAD e 47 i))) (FP.dmul 4611686018427387904 (dAD e 48 i))) (dAD e 56 i))), (1, .double t), (0, .ref (ad 0))]) hx hb dX1_step_445 hl (k := 2) rfl (nI_1 _) (by decide) rfl (fun ls hl => ?_)
        refine lv_goto (tgt := 327) hx hb dX1_step_448 (by decide) ?_
        exact ih (i + 1) (by omega) (by omega) H locs ls (mG_d (by exact c2I_s e i) G) (lv_sub hl [0, 3, 4] rfl) kk
  have L4 : ∀ (i10 : iOK C (dAI d 10) (raD C (tmU (otD C (ruD C t (s1D C d)))))) (n_ m : Nat), m ≤ cN C → cN C < m + n_ → ∀ (H : Heap) (locs : List Loc) (ls : Array Slot), mG D dA ad C (dfN m (raD C (tmU (otD C (ruD C t (s1D C d)))))) s0 H locs → lv_has ls 7 [(3, .int (nI m)), (1, .double t), (0, .ref (ad 0))] → (∀ (H : Heap) (locs : List Loc) (ls : Array Slot), mG D dA ad C (dfN (cN C) (raD C (tmU (otD C (ruD C t (s1D C d)))))) s0 H locs → lv_has ls 7 [(3, .int (nI (cN C))), (1, .double t), (0, .ref (ad 0))] → W p0 l e0 (rm_ 5) s0 mid (Value.ref (ad 0) :: []).toArray bl0 me0 co0 H locs 0 0 (MQ bl0 (mQ D dA ad none C (stD C t d)) (Value.ref (ad 0) :: []).toArray s0 0 0 (mA ad)) (F0 mid 495 ls [])) → W p0 l e0 (rm_ 5) s0 mid (Value.ref (ad 0) :: []).toArray bl0 me0 co0 H locs 0 0 (MQ bl0 (mQ D dA ad none C (stD C t d)) (Value.ref (ad 0) :: []).toArray s0 0 0 (mA ad)) (F0 mid 476 ls []) := by
    intro i10 n_
    induction n_ with
    | zero => intro m h1_ h2_; exact absurd h2_ (by omega)
    | succ n_ ih =>
      intro m h1_ h2_ H locs ls G hl kk
      refine lv_iload_n hx hb dX1_step_476 rfl (lv_at hl 0 rfl) ?_
      refine lv_aload_n hx hb dX1_step_477 rfl (lv_at hl 2 rfl) ?_
      refine mm_get S G 0 (by decide) q1267 rfl (v := .int (nI (cN C))) rfl dX1_step_478 ?_
      refine nn_cge (tgt := 495) hx hb (by omega) (by omega) dX1_step_481 (by decide) (fun c_481 => ?_) (fun c_481 => ?_)
      · have hiN : m = cN C := by omega
        subst hiN
        exact kk H locs ls G (lv_sub hl [0, 1, 2] rfl)
      · refine lv_aload_n hx hb dX1_step_484 rfl (lv_at hl 2 rfl) ?_
        refine lv_iload_n hx hb dX1_step_485 rfl (lv_at hl 0 rfl) ?_
        refine mm_call (As := [.int (nI m)]) (rest := []) S G (mt_X1_differ l D dA ad C (dfN m (raD C (tmU (otD C (ruD C t (s1D C d)))))) m (by omega) (iOK_dfN i10 m).r) q1607 q1609 qs38 q1610 hd_X1_differ ⟨Nat.le_of_ble_eq_true rfl, Nat.le_of_ble_eq_true rfl⟩ rfl hl.1 rfl (Nat.le_of_ble_eq_true rfl) dX1_step_486 ⟨Nat.zero_le _, Nat.zero_le _⟩ (fun H locs G => ?_)
        refine W.eq (g2 := F0 mid 489 ls []) rfl ?_
        refine lv_iinc (v := nI (m + 1)) (lv' := [(3, .int (nI (m + 1))), (1, .double t), (0, .ref (ad 0))]) hx hb dX1_step_489 hl (k := 0) rfl (nI_1 _) (by decide) rfl (fun ls hl => ?_)
        refine lv_goto (tgt := 476) hx hb dX1_step_492 (by decide) ?_
        exact ih (m + 1) (by omega) (by omega) H locs ls (mG_d (by rfl) G) (lv_sub hl [0, 1, 2] rfl) kk
  have J1 : ∀ (i4 : iOK C (dAI d 10) (ruD C t (s1D C d))) (H : Heap) (locs : List Loc) (ls : Array Slot), mG D dA ad C (ruD C t (s1D C d)) s0 H locs → lv_has ls 7 [(1, .double t), (0, .ref (ad 0))] → W p0 l e0 (rm_ 5) s0 mid (Value.ref (ad 0) :: []).toArray bl0 me0 co0 H locs 0 0 (MQ bl0 (mQ D dA ad none C (stD C t d)) (Value.ref (ad 0) :: []).toArray s0 0 0 (mA ad)) (F0 mid 456 ls []) := by
    intro i4 H locs ls G hl
    refine lv_aload_n hx hb dX1_step_456 rfl (lv_at hl 1 rfl) ?_
    refine mm_call (As := []) (rest := []) S G (mt_X1_others l D dA ad C (ruD C t (s1D C d)) hC hDl) q1646 q1648 qs45 q1649 hd_X1_others ⟨Nat.le_of_ble_eq_true rfl, Nat.le_of_ble_eq_true rfl⟩ rfl hl.1 rfl (Nat.le_of_ble_eq_true rfl) dX1_step_457 ⟨Nat.zero_le _, Nat.zero_le _⟩ (fun H locs G => ?_)
    refine W.eq (g2 := F0 mid 460 ls []) rfl ?_
    refine lv_aload_n hx hb dX1_step_460 rfl (lv_at hl 1 rfl) ?_
    refine lv_dup hx hb dX1_step_461 rfl ?_
    refine mm_get S G 12 (by decide) q1279 rfl (v := .int (dI (otD C (ruD C t (s1D C d))) 12)) rfl dX1_step_462 ?_
    refine lv_iconst (v := nI 1) hx hb dX1_step_465 (by decide) ?_
    refine lv_iadd hx hb dX1_step_466 ?_
    refine mm_puti S G 12 rfl (by decide) q1279 rfl rfl rfl dX1_step_467 (fun H locs G => ?_)
    have G : mG D dA ad C (tmU (otD C (ruD C t (s1D C d)))) s0 H locs := G
    have i9 : iOK C (dAI d 10) (tmU (otD C (ruD C t (s1D C d)))) := iOK_tm (iOK_otN i4 (cN C))
    refine lv_aload_n hx hb dX1_step_470 rfl (lv_at hl 1 rfl) ?_
    refine mm_call (As := []) (rest := []) S G (mt_X1_readAll l D dA ad C (tmU (otD C (ruD C t (s1D C d)))) hC hV i9.r hA (by rw [i9.l]; exact hL)) q1546 q1548 qs26 q1549 hd_X1_readAll ⟨Nat.le_of_ble_eq_true rfl, Nat.le_of_ble_eq_true rfl⟩ rfl hl.1 rfl (Nat.le_of_ble_eq_true rfl) dX1_step_471 ⟨Nat.zero_le _, Nat.zero_le _⟩ (fun H locs G => ?_)
    refine W.eq (g2 := F0 mid 474 ls []) rfl ?_
    have i10 := iOK_ra hC hV hA i9
    refine lv_iconst (v := nI 0) hx hb dX1_step_474 (by decide) ?_
    refine lv_istore_n (lv' := [(3, .int (nI 0)), (1, .double t), (0, .ref (ad 0))]) hx hb dX1_step_475 rfl hl (by decide) rfl (fun ls hl => ?_)
    refine L4 i10 (cN C + 1) 0 (by omega) (by omega) _ _ ls (mG_d (by rfl) G) (lv_sub hl [0, 1, 2] rfl) (fun H locs ls G hl => ?_)
    exact mm_vret S hr hlk G rfl (by rfl) dX1_step_495
  refine lv_aload_n hx hb dX1_step_0 rfl (lv_at hl 0 rfl) ?_
  refine mm_get S G 45 (by decide) q1312 rfl (v := .double t) (show Value.double (dD d 45) = Value.double t by rw [hT]) dX1_step_1 ?_
  refine lv_dstore_n (lv' := [(1, .double t), (0, .ref (ad 0))]) hx hb dX1_step_4 rfl hl (by decide) rfl (fun ls hl => ?_)
  refine lv_iconst (v := nI 0) hx hb dX1_step_5 (by decide) ?_
  refine lv_istore_n (lv' := [(3, .int (nI 0)), (1, .double t), (0, .ref (ad 0))]) hx hb dX1_step_6 rfl hl (by decide) rfl (fun ls hl => ?_)
  refine L1 (cN C + 1) 0 (by omega) (by omega) _ _ ls (mG_d (by rfl) G) (lv_sub hl [0, 1, 2] rfl) (fun H locs ls G hl => ?_)
  have i1 := iOK_tkN hI (cN C)
  refine lv_aload_n hx hb dX1_step_157 rfl (lv_at hl 2 rfl) ?_
  refine mm_call (As := []) (rest := []) S G (mt_X1_rateAll l D dA ad C (tkN C (cN C) d) hC i1.r) q1632 q1634 qs42 q1635 hd_X1_rateAll ⟨Nat.le_of_ble_eq_true rfl, Nat.le_of_ble_eq_true rfl⟩ rfl hl.1 rfl (Nat.le_of_ble_eq_true rfl) dX1_step_158 ⟨Nat.zero_le _, Nat.zero_le _⟩ (fun H locs G => ?_)
  refine W.eq (g2 := F0 mid 161 ls []) rfl ?_
  obtain ⟨i2, h2⟩ := iOK_rate i1
  refine lv_aload_n hx hb dX1_step_161 rfl (lv_at hl 2 rfl) ?_
  refine lv_iconst (v := nI 1) hx hb dX1_step_162 (by decide) ?_
  refine mm_call (As := [.int (nI 1)]) (rest := []) S G (mt_X1_keepRates l D dA ad C (rateD C (tkN C (cN C) d)) 1 hC (by decide)) q1636 q1638 qs43 q1639 hd_X1_keepRates ⟨Nat.le_of_ble_eq_true rfl, Nat.le_of_ble_eq_true rfl⟩ rfl hl.1 rfl (Nat.le_of_ble_eq_true rfl) dX1_step_163 ⟨Nat.zero_le _, Nat.zero_le _⟩ (fun H locs G => ?_)
  refine W.eq (g2 := F0 mid 166 ls []) rfl ?_
  have G : mG D dA ad C (s1D C d) s0 H locs := G
  obtain ⟨i3, h3, z3⟩ := iOK_s1 hI
  refine lv_aload_n hx hb dX1_step_166 rfl (lv_at hl 2 rfl) ?_
  refine mm_get S G 13 (by decide) q1280 rfl (v := .int (nI (cR C))) rfl dX1_step_167 ?_
  refine nz_ne (tgt := 181) hx hb (by omega) dX1_step_170 (by decide) (fun c_170 => ?_) (fun c_170 => ?_)
  · refine lv_aload_n hx hb dX1_step_181 rfl (lv_at hl 2 rfl) ?_
    refine mm_get S G 13 (by decide) q1280 rfl (v := .int (nI (cR C))) rfl dX1_step_182 ?_
    refine lv_iconst (v := nI 1) hx hb dX1_step_185 (by decide) ?_
    refine nn_cne (tgt := 268) hx hb (by omega) (by omega) dX1_step_186 (by decide) (fun c_186 => ?_) (fun c_186 => ?_)
    · refine lv_aload_n hx hb dX1_step_268 rfl (lv_at hl 2 rfl) ?_
      refine lv_dload_n hx hb dX1_step_269 rfl (lv_at hl 1 rfl) ?_
      refine lv_ldc2d hx hb hown (hts _ q1627) dX1_step_270 ?_
      refine lv_ddiv hx hb dX1_step_273 (bD_n ht2.2.2) ?_
      refine mm_call (As := [.double (FP.ddiv t 4611686018427387904)]) (rest := []) S G (mt_X1_stage l D dA ad C (s1D C d) (FP.ddiv t 4611686018427387904) hC ht2 (q_of i3.f h3)) q1640 q1642 qs44 q1643 hd_X1_stage ⟨Nat.le_of_ble_eq_true rfl, Nat.le_of_ble_eq_true rfl⟩ rfl hl.1 rfl (Nat.le_of_ble_eq_true rfl) dX1_step_274 ⟨Nat.zero_le _, Nat.zero_le _⟩ (fun H locs G => ?_)
      refine W.eq (g2 := F0 mid 277 ls []) rfl ?_
      have i5 := iOK_sg ht2 (q_of i3.f h3) i3
      refine lv_aload_n hx hb dX1_step_277 rfl (lv_at hl 2 rfl) ?_
      refine mm_call (As := []) (rest := []) S G (mt_X1_readAll l D dA ad C (sgA C (FP.ddiv t 4611686018427387904) (s1D C d)) hC hV i5.r hA (by rw [i5.l]; exact hL)) q1546 q1548 qs26 q1549 hd_X1_readAll ⟨Nat.le_of_ble_eq_true rfl, Nat.le_of_ble_eq_true rfl⟩ rfl hl.1 rfl (Nat.le_of_ble_eq_true rfl) dX1_step_278 ⟨Nat.zero_le _, Nat.zero_le _⟩ (fun H locs G => ?_)
      refine W.eq (g2 := F0 mid 281 ls []) rfl ?_
      have i6 := iOK_ra hC hV hA i5
      refine lv_aload_n hx hb dX1_step_281 rfl (lv_at hl 2 rfl) ?_
      refine mm_call (As := []) (rest := []) S G (mt_X1_rateAll l D dA ad C (raD C (sgA C (FP.ddiv t 4611686018427387904) (s1D C d))) hC i6.r) q1632 q1634 qs42 q1635 hd_X1_rateAll ⟨Nat.le_of_ble_eq_true rfl, Nat.le_of_ble_eq_true rfl⟩ rfl hl.1 rfl (Nat.le_of_ble_eq_true rfl) dX1_step_282 ⟨Nat.zero_le _, Nat.zero_le _⟩ (fun H locs G => ?_)
      refine W.eq (g2 := F0 mid 285 ls []) rfl ?_
      obtain ⟨i7, h7⟩ := iOK_rate i6
      refine lv_aload_n hx hb dX1_step_285 rfl (lv_at hl 2 rfl) ?_
      refine lv_iconst (v := nI 2) hx hb dX1_step_286 (by decide) ?_
      refine mm_call (As := [.int (nI 2)]) (rest := []) S G (mt_X1_keepRates l D dA ad C (rateD C (raD C (sgA C (FP.ddiv t 4611686018427387904) (s1D C d)))) 2 hC (by decide)) q1636 q1638 qs43 q1639 hd_X1_keepRates ⟨Nat.le_of_ble_eq_true rfl, Nat.le_of_ble_eq_true rfl⟩ rfl hl.1 rfl (Nat.le_of_ble_eq_true rfl) dX1_step_287 ⟨Nat.zero_le _, Nat.zero_le _⟩ (fun H locs G => ?_)
      refine W.eq (g2 := F0 mid 290 ls []) rfl ?_
      have G : mG D dA ad C (r2a C t (s1D C d)) s0 H locs := G
      obtain ⟨i8, h8⟩ := iOK_kp2 i7 h7
      have i8 : iOK C (dAI d 10) (r2a C t (s1D C d)) := i8
      have h8 : hOK (r2a C t (s1D C d)) := h8
      refine lv_aload_n hx hb dX1_step_290 rfl (lv_at hl 2 rfl) ?_
      refine lv_dload_n hx hb dX1_step_291 rfl (lv_at hl 1 rfl) ?_
      refine lv_ldc2d hx hb hown (hts _ q1627) dX1_step_292 ?_
      refine lv_ddiv hx hb dX1_step_295 (bD_n ht2.2.2) ?_
      refine mm_call (As := [.double (FP.ddiv t 4611686018427387904)]) (rest := []) S G (mt_X1_stage l D dA ad C (r2a C t (s1D C d)) (FP.ddiv t 4611686018427387904) hC ht2 (q_of i8.f h8)) q1640 q1642 qs44 q1643 hd_X1_stage ⟨Nat.le_of_ble_eq_true rfl, Nat.le_of_ble_eq_true rfl⟩ rfl hl.1 rfl (Nat.le_of_ble_eq_true rfl) dX1_step_296 ⟨Nat.zero_le _, Nat.zero_le _⟩ (fun H locs G => ?_)
      refine W.eq (g2 := F0 mid 299 ls []) rfl ?_
      have j5 := iOK_sg ht2 (q_of i8.f h8) i8
      refine lv_aload_n hx hb dX1_step_299 rfl (lv_at hl 2 rfl) ?_
      refine mm_call (As := []) (rest := []) S G (mt_X1_readAll l D dA ad C (sgA C (FP.ddiv t 4611686018427387904) (r2a C t (s1D C d))) hC hV j5.r hA (by rw [j5.l]; exact hL)) q1546 q1548 qs26 q1549 hd_X1_readAll ⟨Nat.le_of_ble_eq_true rfl, Nat.le_of_ble_eq_true rfl⟩ rfl hl.1 rfl (Nat.le_of_ble_eq_true rfl) dX1_step_300 ⟨Nat.zero_le _, Nat.zero_le _⟩ (fun H locs G => ?_)
      refine W.eq (g2 := F0 mid 303 ls []) rfl ?_
      have j6 := iOK_ra hC hV hA j5
      refine lv_aload_n hx hb dX1_step_303 rfl (lv_at hl 2 rfl) ?_
      refine mm_call (As := []) (rest := []) S G (mt_X1_rateAll l D dA ad C (raD C (sgA C (FP.ddiv t 4611686018427387904) (r2a C t (s1D C d)))) hC j6.r) q1632 q1634 qs42 q1635 hd_X1_rateAll ⟨Nat.le_of_ble_eq_true rfl, Nat.le_of_ble_eq_true rfl⟩ rfl hl.1 rfl (Nat.le_of_ble_eq_true rfl) dX1_step_304 ⟨Nat.zero_le _, Nat.zero_le _⟩ (fun H locs G => ?_)
      refine W.eq (g2 := F0 mid 307 ls []) rfl ?_
      obtain ⟨j7, k7⟩ := iOK_rate j6
      refine lv_aload_n hx hb dX1_step_307 rfl (lv_at hl 2 rfl) ?_
      refine lv_iconst (v := nI 3) hx hb dX1_step_308 (by decide) ?_
      refine mm_call (As := [.int (nI 3)]) (rest := []) S G (mt_X1_keepRates l D dA ad C (rateD C (raD C (sgA C (FP.ddiv t 4611686018427387904) (r2a C t (s1D C d))))) 3 hC (by decide)) q1636 q1638 qs43 q1639 hd_X1_keepRates ⟨Nat.le_of_ble_eq_true rfl, Nat.le_of_ble_eq_true rfl⟩ rfl hl.1 rfl (Nat.le_of_ble_eq_true rfl) dX1_step_309 ⟨Nat.zero_le _, Nat.zero_le _⟩ (fun H locs G => ?_)
      refine W.eq (g2 := F0 mid 312 ls []) rfl ?_
      have G : mG D dA ad C (r2b C t (r2a C t (s1D C d))) s0 H locs := G
      obtain ⟨j8, k8⟩ := iOK_kp3 j7 k7
      have j8 : iOK C (dAI d 10) (r2b C t (r2a C t (s1D C d))) := j8
      have k8 : hOK (r2b C t (r2a C t (s1D C d))) := k8
      refine lv_aload_n hx hb dX1_step_312 rfl (lv_at hl 2 rfl) ?_
      refine lv_dload_n hx hb dX1_step_313 rfl (lv_at hl 1 rfl) ?_
      refine mm_call (As := [.double t]) (rest := []) S G (mt_X1_stage l D dA ad C (r2b C t (r2a C t (s1D C d))) t hC ht (q_of j8.f k8)) q1640 q1642 qs44 q1643 hd_X1_stage ⟨Nat.le_of_ble_eq_true rfl, Nat.le_of_ble_eq_true rfl⟩ rfl hl.1 rfl (Nat.le_of_ble_eq_true rfl) dX1_step_314 ⟨Nat.zero_le _, Nat.zero_le _⟩ (fun H locs G => ?_)
      refine W.eq (g2 := F0 mid 317 ls []) rfl ?_
      have l5 := iOK_sg ht (q_of j8.f k8) j8
      refine lv_aload_n hx hb dX1_step_317 rfl (lv_at hl 2 rfl) ?_
      refine mm_call (As := []) (rest := []) S G (mt_X1_readAll l D dA ad C (sgA C t (r2b C t (r2a C t (s1D C d)))) hC hV l5.r hA (by rw [l5.l]; exact hL)) q1546 q1548 qs26 q1549 hd_X1_readAll ⟨Nat.le_of_ble_eq_true rfl, Nat.le_of_ble_eq_true rfl⟩ rfl hl.1 rfl (Nat.le_of_ble_eq_true rfl) dX1_step_318 ⟨Nat.zero_le _, Nat.zero_le _⟩ (fun H locs G => ?_)
      refine W.eq (g2 := F0 mid 321 ls []) rfl ?_
      have l6 := iOK_ra hC hV hA l5
      refine lv_aload_n hx hb dX1_step_321 rfl (lv_at hl 2 rfl) ?_
      refine mm_call (As := []) (rest := []) S G (mt_X1_rateAll l D dA ad C (raD C (sgA C t (r2b C t (r2a C t (s1D C d))))) hC l6.r) q1632 q1634 qs42 q1635 hd_X1_rateAll ⟨Nat.le_of_ble_eq_true rfl, Nat.le_of_ble_eq_true rfl⟩ rfl hl.1 rfl (Nat.le_of_ble_eq_true rfl) dX1_step_322 ⟨Nat.zero_le _, Nat.zero_le _⟩ (fun H locs G => ?_)
      refine W.eq (g2 := F0 mid 325 ls []) rfl ?_
      have G : mG D dA ad C (r2c C t (r2b C t (r2a C t (s1D C d)))) s0 H locs := G
      obtain ⟨l7, m7⟩ := iOK_rate l6
      have l7 : iOK C (dAI d 10) (r2c C t (r2b C t (r2a C t (s1D C d)))) := l7
      have m7 : hOK (r2c C t (r2b C t (r2a C t (s1D C d)))) := m7
      refine lv_iconst (v := nI 0) hx hb dX1_step_325 (by decide) ?_
      refine lv_istore_n (lv' := [(3, .int (nI 0)), (1, .double t), (0, .ref (ad 0))]) hx hb dX1_step_326 rfl hl (by decide) rfl (fun ls hl => ?_)
      refine L3 (r2c C t (r2b C t (r2a C t (s1D C d)))) l7.g m7 (cN C + 1) 0 (by omega) (by omega) _ _ ls (mG_d (by exact (c2I_0 _).symm) G) (lv_sub hl [0, 1, 2] rfl) (fun H locs ls G hl => ?_)
      have y1 : zgOK C 46 50 (r2a C t (s1D C d)) := zg_mv (zg_sr (t := (FP.ddiv t 4611686018427387904)) (by decide) (by decide) (by decide) (by decide) (by decide) (by decide) z3) (ss_D _ _ _ _ _ (by decide)) (ss_F _ _ _ _ _ (by decide))
      have y2 : zgOK C 47 51 (r2a C t (s1D C d)) := zg_kp2 i7.z
      have w1 : zgOK C 46 50 (r2b C t (r2a C t (s1D C d))) := zg_mv (zg_sr (t := (FP.ddiv t 4611686018427387904)) (by decide) (by decide) (by decide) (by decide) (by decide) (by decide) y1) (ss_D _ _ _ _ _ (by decide)) (ss_F _ _ _ _ _ (by decide))
      have w2 : zgOK C 47 51 (r2b C t (r2a C t (s1D C d))) := zg_mv (zg_sr (t := (FP.ddiv t 4611686018427387904)) (by decide) (by decide) (by decide) (by decide) (by decide) (by decide) y2) (ss_D _ _ _ _ _ (by decide)) (ss_F _ _ _ _ _ (by decide))
      have w3 : zgOK C 48 52 (r2b C t (r2a C t (s1D C d))) := zg_kp3 j7.z
      obtain ⟨m8, q8⟩ := iOK_c2 l7 m7 (zg_sr (by decide) (by decide) (by decide) (by decide) (by decide) (by decide) w1) (zg_sr (by decide) (by decide) (by decide) (by decide) (by decide) (by decide) w2) (zg_sr (by decide) (by decide) (by decide) (by decide) (by decide) (by decide) w3)
      refine lv_aload_n hx hb dX1_step_451 rfl (lv_at hl 2 rfl) ?_
      refine lv_dload_n hx hb dX1_step_452 rfl (lv_at hl 1 rfl) ?_
      refine mm_call (As := [.double t]) (rest := []) S G (mt_X1_stage l D dA ad C (c2I (r2c C t (r2b C t (r2a C t (s1D C d)))) (cN C)) t hC ht q8) q1640 q1642 qs44 q1643 hd_X1_stage ⟨Nat.le_of_ble_eq_true rfl, Nat.le_of_ble_eq_true rfl⟩ rfl hl.1 rfl (Nat.le_of_ble_eq_true rfl) dX1_step_453 ⟨Nat.zero_le _, Nat.zero_le _⟩ (fun H locs G => ?_)
      refine W.eq (g2 := F0 mid 456 ls []) rfl ?_
      exact J1 (iOK_ru hC hV hA ht ht2 i3 h3 z3) _ _ ls (mG_d (by show _ = ruD C t (s1D C d); unfold ruD; rw [if_neg c_170, if_neg c_186]; rfl) G) (lv_sub hl [1, 2] rfl)
    · refine lv_aload_n hx hb dX1_step_189 rfl (lv_at hl 2 rfl) ?_
      refine lv_dload_n hx hb dX1_step_190 rfl (lv_at hl 1 rfl) ?_
      refine mm_call (As := [.double t]) (rest := []) S G (mt_X1_stage l D dA ad C (s1D C d) t hC ht (q_of i3.f h3)) q1640 q1642 qs44 q1643 hd_X1_stage ⟨Nat.le_of_ble_eq_true rfl, Nat.le_of_ble_eq_true rfl⟩ rfl hl.1 rfl (Nat.le_of_ble_eq_true rfl) dX1_step_191 ⟨Nat.zero_le _, Nat.zero_le _⟩ (fun H locs G => ?_)
      refine W.eq (g2 := F0 mid 194 ls []) rfl ?_
      have i5 := iOK_sg ht (q_of i3.f h3) i3
      refine lv_aload_n hx hb dX1_step_194 rfl (lv_at hl 2 rfl) ?_
      refine mm_call (As := []) (rest := []) S G (mt_X1_readAll l D dA ad C (sgA C t (s1D C d)) hC hV i5.r hA (by rw [i5.l]; exact hL)) q1546 q1548 qs26 q1549 hd_X1_readAll ⟨Nat.le_of_ble_eq_true rfl, Nat.le_of_ble_eq_true rfl⟩ rfl hl.1 rfl (Nat.le_of_ble_eq_true rfl) dX1_step_195 ⟨Nat.zero_le _, Nat.zero_le _⟩ (fun H locs G => ?_)
      refine W.eq (g2 := F0 mid 198 ls []) rfl ?_
      have i6 := iOK_ra hC hV hA i5
      refine lv_aload_n hx hb dX1_step_198 rfl (lv_at hl 2 rfl) ?_
      refine mm_call (As := []) (rest := []) S G (mt_X1_rateAll l D dA ad C (raD C (sgA C t (s1D C d))) hC i6.r) q1632 q1634 qs42 q1635 hd_X1_rateAll ⟨Nat.le_of_ble_eq_true rfl, Nat.le_of_ble_eq_true rfl⟩ rfl hl.1 rfl (Nat.le_of_ble_eq_true rfl) dX1_step_199 ⟨Nat.zero_le _, Nat.zero_le _⟩ (fun H locs G => ?_)
      refine W.eq (g2 := F0 mid 202 ls []) rfl ?_
      obtain ⟨i7, h7⟩ := iOK_rate i6
      refine lv_iconst (v := nI 0) hx hb dX1_step_202 (by decide) ?_
      refine lv_istore_n (lv' := [(3, .int (nI 0)), (1, .double t), (0, .ref (ad 0))]) hx hb dX1_step_203 rfl hl (by decide) rfl (fun ls hl => ?_)
      refine L2 (rateD C (raD C (sgA C t (s1D C d)))) i7.g h7 (cN C + 1) 0 (by omega) (by omega) _ _ ls (mG_d (by exact (c1I_0 _).symm) G) (lv_sub hl [0, 1, 2] rfl) (fun H locs ls G hl => ?_)
      obtain ⟨i8, q8⟩ := iOK_c1 i7 h7 (zg_sr (by decide) (by decide) (by decide) (by decide) (by decide) (by decide) z3)
      refine lv_aload_n hx hb dX1_step_256 rfl (lv_at hl 2 rfl) ?_
      refine lv_dload_n hx hb dX1_step_257 rfl (lv_at hl 1 rfl) ?_
      refine lv_ldc2d hx hb hown (hts _ q1627) dX1_step_258 ?_
      refine lv_ddiv hx hb dX1_step_261 (bD_n ht2.2.2) ?_
      refine mm_call (As := [.double (FP.ddiv t 4611686018427387904)]) (rest := []) S G (mt_X1_stage l D dA ad C (c1I (rateD C (raD C (sgA C t (s1D C d)))) (cN C)) (FP.ddiv t 4611686018427387904) hC ht2 q8) q1640 q1642 qs44 q1643 hd_X1_stage ⟨Nat.le_of_ble_eq_true rfl, Nat.le_of_ble_eq_true rfl⟩ rfl hl.1 rfl (Nat.le_of_ble_eq_true rfl) dX1_step_262 ⟨Nat.zero_le _, Nat.zero_le _⟩ (fun H locs G => ?_)
      refine W.eq (g2 := F0 mid 265 ls []) rfl ?_
      refine lv_goto (tgt := 456) hx hb dX1_step_265 (by decide) ?_
      exact J1 (iOK_ru hC hV hA ht ht2 i3 h3 z3) _ _ ls (mG_d (by show _ = ruD C t (s1D C d); unfold ruD; rw [if_neg c_170, if_pos c_186]; rfl) G) (lv_sub hl [1, 2] rfl)
  · refine lv_aload_n hx hb dX1_step_173 rfl (lv_at hl 2 rfl) ?_
    refine lv_dload_n hx hb dX1_step_174 rfl (lv_at hl 1 rfl) ?_
    refine mm_call (As := [.double t]) (rest := []) S G (mt_X1_stage l D dA ad C (s1D C d) t hC ht (q_of i3.f h3)) q1640 q1642 qs44 q1643 hd_X1_stage ⟨Nat.le_of_ble_eq_true rfl, Nat.le_of_ble_eq_true rfl⟩ rfl hl.1 rfl (Nat.le_of_ble_eq_true rfl) dX1_step_175 ⟨Nat.zero_le _, Nat.zero_le _⟩ (fun H locs G => ?_)
    refine W.eq (g2 := F0 mid 178 ls []) rfl ?_
    refine lv_goto (tgt := 456) hx hb dX1_step_178 (by decide) ?_
    exact J1 (iOK_ru hC hV hA ht ht2 i3 h3 z3) _ _ ls (mG_d (by show _ = ruD C t (s1D C d); unfold ruD; rw [if_pos c_170]; rfl) G) (lv_sub hl [1, 2] rfl)
