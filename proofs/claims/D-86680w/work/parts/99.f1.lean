set_option maxRecDepth 100000
set_option maxHeartbeats 4000000
theorem dX1_init_0 : decode cX1_init 0 = .ok (.aload_n 0, 1) := by decide +kernel
theorem dX1_init_1 : decode cX1_init 1 = .ok (.invokespecial 1, 3) := by decide +kernel
theorem dX1_init_4 : decode cX1_init 4 = .ok (.aload_n 0, 1) := by decide +kernel
theorem dX1_init_5 : decode cX1_init 5 = .ok (.bipush 20, 2) := by decide +kernel
theorem dX1_init_7 : decode cX1_init 7 = .ok (.newarray .int, 2) := by decide +kernel
theorem dX1_init_9 : decode cX1_init 9 = .ok (.putfield 7, 3) := by decide +kernel
theorem dX1_init_12 : decode cX1_init 12 = .ok (.aload_n 0, 1) := by decide +kernel
theorem dX1_init_13 : decode cX1_init 13 = .ok (.bipush 20, 2) := by decide +kernel
theorem dX1_init_15 : decode cX1_init 15 = .ok (.newarray .double, 2) := by decide +kernel
theorem dX1_init_17 : decode cX1_init 17 = .ok (.putfield 13, 3) := by decide +kernel
theorem dX1_init_20 : decode cX1_init 20 = .ok (.aload_n 0, 1) := by decide +kernel
theorem dX1_init_21 : decode cX1_init 21 = .ok (.bipush 120, 2) := by decide +kernel
theorem dX1_init_23 : decode cX1_init 23 = .ok (.newarray .int, 2) := by decide +kernel
theorem dX1_init_25 : decode cX1_init 25 = .ok (.putfield 17, 3) := by decide +kernel
theorem dX1_init_28 : decode cX1_init 28 = .ok (.aload_n 0, 1) := by decide +kernel
theorem dX1_init_29 : decode cX1_init 29 = .ok (.bipush 120, 2) := by decide +kernel
theorem dX1_init_31 : decode cX1_init 31 = .ok (.newarray .boolean, 2) := by decide +kernel
theorem dX1_init_33 : decode cX1_init 33 = .ok (.putfield 20, 3) := by decide +kernel
theorem dX1_init_36 : decode cX1_init 36 = .ok (.aload_n 0, 1) := by decide +kernel
theorem dX1_init_37 : decode cX1_init 37 = .ok (.bipush 20, 2) := by decide +kernel
theorem dX1_init_39 : decode cX1_init 39 = .ok (.newarray .double, 2) := by decide +kernel
theorem dX1_init_41 : decode cX1_init 41 = .ok (.putfield 24, 3) := by decide +kernel
theorem dX1_init_44 : decode cX1_init 44 = .ok (.aload_n 0, 1) := by decide +kernel
theorem dX1_init_45 : decode cX1_init 45 = .ok (.bipush 20, 2) := by decide +kernel
theorem dX1_init_47 : decode cX1_init 47 = .ok (.newarray .int, 2) := by decide +kernel
theorem dX1_init_49 : decode cX1_init 49 = .ok (.putfield 27, 3) := by decide +kernel
theorem dX1_init_52 : decode cX1_init 52 = .ok (.aload_n 0, 1) := by decide +kernel
theorem dX1_init_53 : decode cX1_init 53 = .ok (.sipush 160, 3) := by decide +kernel
theorem dX1_init_56 : decode cX1_init 56 = .ok (.newarray .double, 2) := by decide +kernel
theorem dX1_init_58 : decode cX1_init 58 = .ok (.putfield 30, 3) := by decide +kernel
theorem dX1_init_61 : decode cX1_init 61 = .ok (.aload_n 0, 1) := by decide +kernel
theorem dX1_init_62 : decode cX1_init 62 = .ok (.sipush 160, 3) := by decide +kernel
theorem dX1_init_65 : decode cX1_init 65 = .ok (.newarray .double, 2) := by decide +kernel
theorem dX1_init_67 : decode cX1_init 67 = .ok (.putfield 33, 3) := by decide +kernel
theorem dX1_init_70 : decode cX1_init 70 = .ok (.aload_n 0, 1) := by decide +kernel
theorem dX1_init_71 : decode cX1_init 71 = .ok (.bipush 20, 2) := by decide +kernel
theorem dX1_init_73 : decode cX1_init 73 = .ok (.newarray .int, 2) := by decide +kernel
theorem dX1_init_75 : decode cX1_init 75 = .ok (.putfield 36, 3) := by decide +kernel
theorem dX1_init_78 : decode cX1_init 78 = .ok (.aload_n 0, 1) := by decide +kernel
theorem dX1_init_79 : decode cX1_init 79 = .ok (.bipush 20, 2) := by decide +kernel
theorem dX1_init_81 : decode cX1_init 81 = .ok (.newarray .int, 2) := by decide +kernel
theorem dX1_init_83 : decode cX1_init 83 = .ok (.putfield 39, 3) := by decide +kernel
theorem dX1_init_86 : decode cX1_init 86 = .ok (.aload_n 0, 1) := by decide +kernel
theorem dX1_init_87 : decode cX1_init 87 = .ok (.iconst 4, 1) := by decide +kernel
theorem dX1_init_88 : decode cX1_init 88 = .ok (.putfield 42, 3) := by decide +kernel
theorem dX1_init_91 : decode cX1_init 91 = .ok (.aload_n 0, 1) := by decide +kernel
theorem dX1_init_92 : decode cX1_init 92 = .ok (.bipush 20, 2) := by decide +kernel
theorem dX1_init_94 : decode cX1_init 94 = .ok (.newarray .double, 2) := by decide +kernel
theorem dX1_init_96 : decode cX1_init 96 = .ok (.putfield 46, 3) := by decide +kernel
theorem dX1_init_99 : decode cX1_init 99 = .ok (.aload_n 0, 1) := by decide +kernel
theorem dX1_init_100 : decode cX1_init 100 = .ok (.bipush 20, 2) := by decide +kernel
theorem dX1_init_102 : decode cX1_init 102 = .ok (.newarray .float, 2) := by decide +kernel
theorem dX1_init_104 : decode cX1_init 104 = .ok (.putfield 49, 3) := by decide +kernel
theorem dX1_init_107 : decode cX1_init 107 = .ok (.aload_n 0, 1) := by decide +kernel
theorem dX1_init_108 : decode cX1_init 108 = .ok (.bipush 20, 2) := by decide +kernel
theorem dX1_init_110 : decode cX1_init 110 = .ok (.newarray .double, 2) := by decide +kernel
theorem dX1_init_112 : decode cX1_init 112 = .ok (.putfield 53, 3) := by decide +kernel
theorem dX1_init_115 : decode cX1_init 115 = .ok (.aload_n 0, 1) := by decide +kernel
theorem dX1_init_116 : decode cX1_init 116 = .ok (.bipush 20, 2) := by decide +kernel
theorem dX1_init_118 : decode cX1_init 118 = .ok (.newarray .float, 2) := by decide +kernel
theorem dX1_init_120 : decode cX1_init 120 = .ok (.putfield 56, 3) := by decide +kernel
theorem dX1_init_123 : decode cX1_init 123 = .ok (.aload_n 0, 1) := by decide +kernel
theorem dX1_init_124 : decode cX1_init 124 = .ok (.sipush 320, 3) := by decide +kernel
theorem dX1_init_127 : decode cX1_init 127 = .ok (.newarray .double, 2) := by decide +kernel
theorem dX1_init_129 : decode cX1_init 129 = .ok (.putfield 59, 3) := by decide +kernel
theorem dX1_init_132 : decode cX1_init 132 = .ok (.aload_n 0, 1) := by decide +kernel
theorem dX1_init_133 : decode cX1_init 133 = .ok (.sipush 320, 3) := by decide +kernel
theorem dX1_init_136 : decode cX1_init 136 = .ok (.newarray .float, 2) := by decide +kernel
theorem dX1_init_138 : decode cX1_init 138 = .ok (.putfield 62, 3) := by decide +kernel
theorem dX1_init_141 : decode cX1_init 141 = .ok (.aload_n 0, 1) := by decide +kernel
theorem dX1_init_142 : decode cX1_init 142 = .ok (.bipush 20, 2) := by decide +kernel
theorem dX1_init_144 : decode cX1_init 144 = .ok (.newarray .int, 2) := by decide +kernel
theorem dX1_init_146 : decode cX1_init 146 = .ok (.putfield 65, 3) := by decide +kernel
theorem dX1_init_149 : decode cX1_init 149 = .ok (.aload_n 0, 1) := by decide +kernel
theorem dX1_init_150 : decode cX1_init 150 = .ok (.bipush 20, 2) := by decide +kernel
theorem dX1_init_152 : decode cX1_init 152 = .ok (.newarray .int, 2) := by decide +kernel
theorem dX1_init_154 : decode cX1_init 154 = .ok (.putfield 68, 3) := by decide +kernel
theorem dX1_init_157 : decode cX1_init 157 = .ok (.aload_n 0, 1) := by decide +kernel
theorem dX1_init_158 : decode cX1_init 158 = .ok (.bipush 20, 2) := by decide +kernel
theorem dX1_init_160 : decode cX1_init 160 = .ok (.newarray .double, 2) := by decide +kernel
theorem dX1_init_162 : decode cX1_init 162 = .ok (.putfield 71, 3) := by decide +kernel
theorem dX1_init_165 : decode cX1_init 165 = .ok (.aload_n 0, 1) := by decide +kernel
theorem dX1_init_166 : decode cX1_init 166 = .ok (.bipush 20, 2) := by decide +kernel
theorem dX1_init_168 : decode cX1_init 168 = .ok (.newarray .double, 2) := by decide +kernel
theorem dX1_init_170 : decode cX1_init 170 = .ok (.putfield 74, 3) := by decide +kernel
theorem dX1_init_173 : decode cX1_init 173 = .ok (.aload_n 0, 1) := by decide +kernel
theorem dX1_init_174 : decode cX1_init 174 = .ok (.bipush 20, 2) := by decide +kernel
theorem dX1_init_176 : decode cX1_init 176 = .ok (.newarray .double, 2) := by decide +kernel
theorem dX1_init_178 : decode cX1_init 178 = .ok (.putfield 77, 3) := by decide +kernel
theorem dX1_init_181 : decode cX1_init 181 = .ok (.aload_n 0, 1) := by decide +kernel
theorem dX1_init_182 : decode cX1_init 182 = .ok (.bipush 20, 2) := by decide +kernel
theorem dX1_init_184 : decode cX1_init 184 = .ok (.newarray .float, 2) := by decide +kernel
theorem dX1_init_186 : decode cX1_init 186 = .ok (.putfield 80, 3) := by decide +kernel
theorem dX1_init_189 : decode cX1_init 189 = .ok (.aload_n 0, 1) := by decide +kernel
theorem dX1_init_190 : decode cX1_init 190 = .ok (.bipush 20, 2) := by decide +kernel
theorem dX1_init_192 : decode cX1_init 192 = .ok (.newarray .double, 2) := by decide +kernel
theorem dX1_init_194 : decode cX1_init 194 = .ok (.putfield 83, 3) := by decide +kernel
theorem dX1_init_197 : decode cX1_init 197 = .ok (.aload_n 0, 1) := by decide +kernel
theorem dX1_init_198 : decode cX1_init 198 = .ok (.bipush 20, 2) := by decide +kernel
theorem dX1_init_200 : decode cX1_init 200 = .ok (.newarray .float, 2) := by decide +kernel
theorem dX1_init_202 : decode cX1_init 202 = .ok (.putfield 86, 3) := by decide +kernel
theorem dX1_init_205 : decode cX1_init 205 = .ok (.aload_n 0, 1) := by decide +kernel
theorem dX1_init_206 : decode cX1_init 206 = .ok (.sipush 320, 3) := by decide +kernel
theorem dX1_init_209 : decode cX1_init 209 = .ok (.newarray .double, 2) := by decide +kernel
theorem dX1_init_211 : decode cX1_init 211 = .ok (.putfield 89, 3) := by decide +kernel
theorem dX1_init_214 : decode cX1_init 214 = .ok (.aload_n 0, 1) := by decide +kernel
theorem dX1_init_215 : decode cX1_init 215 = .ok (.sipush 320, 3) := by decide +kernel
theorem dX1_init_218 : decode cX1_init 218 = .ok (.newarray .float, 2) := by decide +kernel
theorem dX1_init_220 : decode cX1_init 220 = .ok (.putfield 92, 3) := by decide +kernel
theorem dX1_init_223 : decode cX1_init 223 = .ok (.aload_n 0, 1) := by decide +kernel
theorem dX1_init_224 : decode cX1_init 224 = .ok (.bipush 20, 2) := by decide +kernel
theorem dX1_init_226 : decode cX1_init 226 = .ok (.newarray .int, 2) := by decide +kernel
theorem dX1_init_228 : decode cX1_init 228 = .ok (.putfield 95, 3) := by decide +kernel
theorem dX1_init_231 : decode cX1_init 231 = .ok (.aload_n 0, 1) := by decide +kernel
theorem dX1_init_232 : decode cX1_init 232 = .ok (.bipush 20, 2) := by decide +kernel
theorem dX1_init_234 : decode cX1_init 234 = .ok (.newarray .int, 2) := by decide +kernel
theorem dX1_init_236 : decode cX1_init 236 = .ok (.putfield 98, 3) := by decide +kernel
theorem dX1_init_239 : decode cX1_init 239 = .ok (.aload_n 0, 1) := by decide +kernel
theorem dX1_init_240 : decode cX1_init 240 = .ok (.bipush 20, 2) := by decide +kernel
theorem dX1_init_242 : decode cX1_init 242 = .ok (.newarray .double, 2) := by decide +kernel
theorem dX1_init_244 : decode cX1_init 244 = .ok (.putfield 101, 3) := by decide +kernel
theorem dX1_init_247 : decode cX1_init 247 = .ok (.aload_n 0, 1) := by decide +kernel
theorem dX1_init_248 : decode cX1_init 248 = .ok (.bipush 20, 2) := by decide +kernel
theorem dX1_init_250 : decode cX1_init 250 = .ok (.newarray .double, 2) := by decide +kernel
theorem dX1_init_252 : decode cX1_init 252 = .ok (.putfield 104, 3) := by decide +kernel
theorem dX1_init_255 : decode cX1_init 255 = .ok (.aload_n 0, 1) := by decide +kernel
theorem dX1_init_256 : decode cX1_init 256 = .ok (.bipush 6, 2) := by decide +kernel
theorem dX1_init_258 : decode cX1_init 258 = .ok (.newarray .int, 2) := by decide +kernel
theorem dX1_init_260 : decode cX1_init 260 = .ok (.putfield 107, 3) := by decide +kernel
theorem dX1_init_263 : decode cX1_init 263 = .ok (.aload_n 0, 1) := by decide +kernel
theorem dX1_init_264 : decode cX1_init 264 = .ok (.bipush 6, 2) := by decide +kernel
theorem dX1_init_266 : decode cX1_init 266 = .ok (.newarray .int, 2) := by decide +kernel
theorem dX1_init_268 : decode cX1_init 268 = .ok (.putfield 110, 3) := by decide +kernel
theorem dX1_init_271 : decode cX1_init 271 = .ok (.aload_n 0, 1) := by decide +kernel
theorem dX1_init_272 : decode cX1_init 272 = .ok (.sipush 720, 3) := by decide +kernel
theorem dX1_init_275 : decode cX1_init 275 = .ok (.newarray .double, 2) := by decide +kernel
theorem dX1_init_277 : decode cX1_init 277 = .ok (.putfield 113, 3) := by decide +kernel
theorem dX1_init_280 : decode cX1_init 280 = .ok (.aload_n 0, 1) := by decide +kernel
theorem dX1_init_281 : decode cX1_init 281 = .ok (.bipush 6, 2) := by decide +kernel
theorem dX1_init_283 : decode cX1_init 283 = .ok (.newarray .double, 2) := by decide +kernel
theorem dX1_init_285 : decode cX1_init 285 = .ok (.putfield 116, 3) := by decide +kernel
theorem dX1_init_288 : decode cX1_init 288 = .ok (.aload_n 0, 1) := by decide +kernel
theorem dX1_init_289 : decode cX1_init 289 = .ok (.bipush 20, 2) := by decide +kernel
theorem dX1_init_291 : decode cX1_init 291 = .ok (.newarray .boolean, 2) := by decide +kernel
theorem dX1_init_293 : decode cX1_init 293 = .ok (.putfield 119, 3) := by decide +kernel
theorem dX1_init_296 : decode cX1_init 296 = .ok (.aload_n 0, 1) := by decide +kernel
theorem dX1_init_297 : decode cX1_init 297 = .ok (.bipush 20, 2) := by decide +kernel
theorem dX1_init_299 : decode cX1_init 299 = .ok (.newarray .double, 2) := by decide +kernel
theorem dX1_init_301 : decode cX1_init 301 = .ok (.putfield 122, 3) := by decide +kernel
theorem dX1_init_304 : decode cX1_init 304 = .ok (.aload_n 0, 1) := by decide +kernel
theorem dX1_init_305 : decode cX1_init 305 = .ok (.bipush 20, 2) := by decide +kernel
theorem dX1_init_307 : decode cX1_init 307 = .ok (.newarray .double, 2) := by decide +kernel
theorem dX1_init_309 : decode cX1_init 309 = .ok (.putfield 125, 3) := by decide +kernel
theorem dX1_init_312 : decode cX1_init 312 = .ok (.aload_n 0, 1) := by decide +kernel
theorem dX1_init_313 : decode cX1_init 313 = .ok (.bipush 20, 2) := by decide +kernel
theorem dX1_init_315 : decode cX1_init 315 = .ok (.newarray .double, 2) := by decide +kernel
theorem dX1_init_317 : decode cX1_init 317 = .ok (.putfield 128, 3) := by decide +kernel
theorem dX1_init_320 : decode cX1_init 320 = .ok (.aload_n 0, 1) := by decide +kernel
theorem dX1_init_321 : decode cX1_init 321 = .ok (.bipush 20, 2) := by decide +kernel
theorem dX1_init_323 : decode cX1_init 323 = .ok (.newarray .double, 2) := by decide +kernel
theorem dX1_init_325 : decode cX1_init 325 = .ok (.putfield 131, 3) := by decide +kernel
theorem dX1_init_328 : decode cX1_init 328 = .ok (.aload_n 0, 1) := by decide +kernel
theorem dX1_init_329 : decode cX1_init 329 = .ok (.bipush 20, 2) := by decide +kernel
theorem dX1_init_331 : decode cX1_init 331 = .ok (.newarray .float, 2) := by decide +kernel
theorem dX1_init_333 : decode cX1_init 333 = .ok (.putfield 134, 3) := by decide +kernel
theorem dX1_init_336 : decode cX1_init 336 = .ok (.aload_n 0, 1) := by decide +kernel
theorem dX1_init_337 : decode cX1_init 337 = .ok (.bipush 20, 2) := by decide +kernel
theorem dX1_init_339 : decode cX1_init 339 = .ok (.newarray .float, 2) := by decide +kernel
theorem dX1_init_341 : decode cX1_init 341 = .ok (.putfield 137, 3) := by decide +kernel
theorem dX1_init_344 : decode cX1_init 344 = .ok (.aload_n 0, 1) := by decide +kernel
theorem dX1_init_345 : decode cX1_init 345 = .ok (.bipush 20, 2) := by decide +kernel
theorem dX1_init_347 : decode cX1_init 347 = .ok (.newarray .float, 2) := by decide +kernel
theorem dX1_init_349 : decode cX1_init 349 = .ok (.putfield 140, 3) := by decide +kernel
theorem dX1_init_352 : decode cX1_init 352 = .ok (.aload_n 0, 1) := by decide +kernel
theorem dX1_init_353 : decode cX1_init 353 = .ok (.bipush 20, 2) := by decide +kernel
theorem dX1_init_355 : decode cX1_init 355 = .ok (.newarray .float, 2) := by decide +kernel
theorem dX1_init_357 : decode cX1_init 357 = .ok (.putfield 143, 3) := by decide +kernel
theorem dX1_init_360 : decode cX1_init 360 = .ok (.aload_n 0, 1) := by decide +kernel
theorem dX1_init_361 : decode cX1_init 361 = .ok (.bipush 20, 2) := by decide +kernel
theorem dX1_init_363 : decode cX1_init 363 = .ok (.newarray .double, 2) := by decide +kernel
theorem dX1_init_365 : decode cX1_init 365 = .ok (.putfield 146, 3) := by decide +kernel
theorem dX1_init_368 : decode cX1_init 368 = .ok (.aload_n 0, 1) := by decide +kernel
theorem dX1_init_369 : decode cX1_init 369 = .ok (.bipush 20, 2) := by decide +kernel
theorem dX1_init_371 : decode cX1_init 371 = .ok (.newarray .float, 2) := by decide +kernel
theorem dX1_init_373 : decode cX1_init 373 = .ok (.putfield 149, 3) := by decide +kernel
theorem dX1_init_376 : decode cX1_init 376 = .ok (.aload_n 0, 1) := by decide +kernel
theorem dX1_init_377 : decode cX1_init 377 = .ok (.bipush 20, 2) := by decide +kernel
theorem dX1_init_379 : decode cX1_init 379 = .ok (.newarray .double, 2) := by decide +kernel
theorem dX1_init_381 : decode cX1_init 381 = .ok (.putfield 152, 3) := by decide +kernel
theorem dX1_init_384 : decode cX1_init 384 = .ok (.aload_n 0, 1) := by decide +kernel
theorem dX1_init_385 : decode cX1_init 385 = .ok (.bipush 20, 2) := by decide +kernel
theorem dX1_init_387 : decode cX1_init 387 = .ok (.newarray .float, 2) := by decide +kernel
theorem dX1_init_389 : decode cX1_init 389 = .ok (.putfield 155, 3) := by decide +kernel
theorem dX1_init_392 : decode cX1_init 392 = .ok (.iconst 0, 1) := by decide +kernel
theorem dX1_init_393 : decode cX1_init 393 = .ok (.istore_n 1, 1) := by decide +kernel
theorem dX1_init_394 : decode cX1_init 394 = .ok (.iload_n 1, 1) := by decide +kernel
theorem dX1_init_395 : decode cX1_init 395 = .ok (.bipush 20, 2) := by decide +kernel
theorem dX1_init_397 : decode cX1_init 397 = .ok (.if_icmp .ge 16, 3) := by decide +kernel
theorem dX1_init_400 : decode cX1_init 400 = .ok (.aload_n 0, 1) := by decide +kernel
theorem dX1_init_401 : decode cX1_init 401 = .ok (.getfield 68, 3) := by decide +kernel
theorem dX1_init_404 : decode cX1_init 404 = .ok (.iload_n 1, 1) := by decide +kernel
theorem dX1_init_405 : decode cX1_init 405 = .ok (.iconst (-1), 1) := by decide +kernel
theorem dX1_init_406 : decode cX1_init 406 = .ok (.iastore, 1) := by decide +kernel
theorem dX1_init_407 : decode cX1_init 407 = .ok (.iinc 1 1, 3) := by decide +kernel
theorem dX1_init_410 : decode cX1_init 410 = .ok (.goto (-16), 3) := by decide +kernel
theorem dX1_init_413 : decode cX1_init 413 = .ok (.iconst 0, 1) := by decide +kernel
theorem dX1_init_414 : decode cX1_init 414 = .ok (.istore_n 1, 1) := by decide +kernel
theorem dX1_init_415 : decode cX1_init 415 = .ok (.iload_n 1, 1) := by decide +kernel
theorem dX1_init_416 : decode cX1_init 416 = .ok (.bipush 120, 2) := by decide +kernel
theorem dX1_init_418 : decode cX1_init 418 = .ok (.if_icmp .ge 16, 3) := by decide +kernel
theorem dX1_init_421 : decode cX1_init 421 = .ok (.aload_n 0, 1) := by decide +kernel
theorem dX1_init_422 : decode cX1_init 422 = .ok (.getfield 17, 3) := by decide +kernel
theorem dX1_init_425 : decode cX1_init 425 = .ok (.iload_n 1, 1) := by decide +kernel
theorem dX1_init_426 : decode cX1_init 426 = .ok (.iconst (-1), 1) := by decide +kernel
theorem dX1_init_427 : decode cX1_init 427 = .ok (.iastore, 1) := by decide +kernel
theorem dX1_init_428 : decode cX1_init 428 = .ok (.iinc 1 1, 3) := by decide +kernel
theorem dX1_init_431 : decode cX1_init 431 = .ok (.goto (-16), 3) := by decide +kernel
theorem dX1_init_434 : decode cX1_init 434 = .ok (.return_, 1) := by decide +kernel
/-! the reference's constructor: 47 arrays, 3278 slots -/
def ow (a : Nat) (f : Nat → Value) (g : Nat → Option (Nat × va_E)) : wr_F := fun r => match r with
  | 0 => some (a, .inr (1, (List.range 61).map f))
  | k + 1 => g k
theorem ow_al {a : Nat} {f : Nat → Value} {g : Nat → Option (Nat × va_E)} {k : Nat} {x : Nat × va_E} : wr_s (ow a f g) (k + 1) x = ow a f (vf_upd g k (some x)) := by
  funext r
  cases r with
  | zero => rfl
  | succ r =>
    show (if r + 1 = k + 1 then some x else g r) = vf_upd g k (some x) r
    unfold vf_upd
    by_cases h : r = k
    · rw [if_pos h, if_pos (by omega)]
    · rw [if_neg h, if_neg (by omega)]
theorem ow_pt {a : Nat} {f : Nat → Value} {g : Nat → Option (Nat × va_E)} {k : Nat} {v : Value} : wr_s (ow a f g) 0 (a, .inr (1, ((List.range 61).map f).set k v)) = ow a (vf_upd f k v) g := by
  funext r
  cases r with
  | succ r => rfl
  | zero =>
    have e0 : ((List.range 61).map f).set k v = (List.range 61).map (vf_upd f k v) := by
      apply List.ext_getElem?
      intro i
      by_cases hi : i < 61
      · rw [List.getElem?_map (f := vf_upd f k v), List.getElem?_range hi]
        by_cases e : k = i
        · subst e
          rw [List.getElem?_set_self (by simp; exact hi)]
          show some v = some (vf_upd f k v k)
          rw [vf_at]
        · rw [List.getElem?_set_ne e, List.getElem?_map, List.getElem?_range hi]
          show some (f i) = some (vf_upd f k v i)
          rw [vf_ne _ _ (Ne.symm e)]
      · rw [List.getElem?_eq_none (by simp; omega), List.getElem?_eq_none (by simp; omega)]
    show some (a, Sum.inr (1, _)) = some (a, Sum.inr (1, _))
    rw [e0]
theorem ow_at {f : Nat → Value} {k : Nat} (hk : k < 61) {v : Value} (h : f k = v) : ((List.range 61).map f)[k]? = some v := by
  rw [List.getElem?_map, List.getElem?_range hk, ← h]; rfl
theorem ow_l {f : Nat → Value} : ((List.range 61).map f).length = 61 := by simp
theorem vf_2 {α : Type} (f : Nat → α) (k : Nat) (x y : α) : vf_upd (vf_upd f k x) k y = vf_upd f k y := by
  funext j; unfold vf_upd; split <;> rfl
def of0 : Nat → Value := fun k => defaultValue (tyX1 k)
def ow0 (a : Nat) : wr_F := wr_s (fun _ => none) 0 (a, .inr (1, (List.range 61).map of0))
theorem ow0_e (a : Nat) : ow0 a = ow a of0 (fun _ => none) := by funext r; cases r <;> rfl
theorem mW_hi {dA : Nat → ClassId} {ad : Nat → Nat} {C : tp_C} {d : md_T} {k : Nat} (h : 61 ≤ k) : mW dA ad C d (k + 1) = none := by
  obtain ⟨i, rfl⟩ := Nat.exists_eq_add_of_le h
  show (mE dA C d (61 + i)).map _ = none
  rw [Nat.add_comm 61 i]; rfl
theorem ow_ext {a : Nat} {f : Nat → Value} {g : Nat → Option (Nat × va_E)} {dA : Nat → ClassId} {ad : Nat → Nat} {C : tp_C} {d : md_T} (ha : ad 0 = a) (h1 : ∀ k, k < 61 → f k = mV ad C d k) (h2 : ∀ k, k < 61 → g k = (mE dA C d k).map (fun x => (ad (k + 1), x))) (h3 : ∀ k, 61 ≤ k → g k = none) : ow a f g = mW dA ad C d := by
  funext r
  cases r with
  | zero =>
    have e0 : (List.range 61).map f = mFs ad C d := List.map_congr_left (fun k hk => h1 k (List.mem_range.mp hk))
    show some (a, Sum.inr (1, _)) = some (ad 0, Sum.inr (1, _))
    rw [ha, e0]
  | succ k =>
    by_cases h : k < 61
    · exact h2 k h
    · rw [mW_hi (by omega)]; exact h3 k (by omega)
def lmF (i : Nat) : Nat → Int32 := fun j => if j < i then -1 else 0
theorem lmF_s (i : Nat) : upd (lmF i) i (-1) = lmF (i + 1) := by
  funext j; unfold upd lmF
  by_cases h : j = i
  · rw [if_pos h, if_pos (by omega)]
  · rw [if_neg h]
    by_cases h2 : j < i
    · rw [if_pos h2, if_pos (by omega)]
    · rw [if_neg h2, if_neg (by omega)]
theorem lmF_0 : lmF 0 = fun _ => 0 := by funext j; exact if_neg (Nat.not_lt_zero _)
theorem ct_X1_init (l : Launch) (D : va_G) (dA : Nat → ClassId) (a : Nat) : gN l D dA yX1_init cX1_init 2 none 1 47 3278 [.ref a] (ow0 a) (fun o w' => o = none ∧ ∃ ad : Nat → Nat, ad 0 = a ∧ w' = mW dA ad pnC nmd) := by
  refine ww_start (own := RX1) (by decide) rfl (Nat.le_of_ble_eq_true rfl) ?_
  intro p0 e0 s0 mid bl0 me0 co0 ls S hr hlk hin G hl
  have hx := S.1; have hb := S.2.1; have hml := S.2.2.1; have hown := S.2.2.2.1; have hts := S.2.2.2.2
  have hA : ∀ q, s0.heap.size ≤ q → xB (gA (ow0 a)) s0.heap.size q := fun q h => Or.inr h
  have hl : lv_has ls 2 [(0, .ref a)] := hl
  have lp1 : ∀ (F : Nat → Value) (Gf : Nat → Option (Nat × va_E)) (q : Nat), F 24 = .ref q → ∀ (n_ i : Nat), i ≤ 20 → 20 < i + n_ → ∀ (H : Heap) (locs : List Loc) (ls : Array Slot), wG D dA (xB (gA (ow0 a)) s0.heap.size) (ow a F (vf_upd Gf 24 (some (q, e_I (dA 0) 20 (lmF i))))) s0 H locs → lv_has ls 2 [(1, .int (nI i)), (0, .ref a)] → (∀ (H : Heap) (locs : List Loc) (ls : Array Slot), wG D dA (xB (gA (ow0 a)) s0.heap.size) (ow a F (vf_upd Gf 24 (some (q, e_I (dA 0) 20 (lmF 20))))) s0 H locs → lv_has ls 2 [(1, .int (nI 20)), (0, .ref a)] → W p0 l e0 (rmN 1 47 3278) s0 mid ([.ref a] : List Value).toArray bl0 me0 co0 H locs 47 3278 (MQ bl0 (gQN D dA (ow0 a) s0.heap.size (fun o w' => o = none ∧ ∃ ad : Nat → Nat, ad 0 = a ∧ w' = mW dA ad pnC nmd)) ([.ref a] : List Value).toArray s0 47 3278 (xB (gA (ow0 a)) s0.heap.size)) (F0 mid 413 ls [])) → W p0 l e0 (rmN 1 47 3278) s0 mid ([.ref a] : List Value).toArray bl0 me0 co0 H locs 47 3278 (MQ bl0 (gQN D dA (ow0 a) s0.heap.size (fun o w' => o = none ∧ ∃ ad : Nat → Nat, ad 0 = a ∧ w' = mW dA ad pnC nmd)) ([.ref a] : List Value).toArray s0 47 3278 (xB (gA (ow0 a)) s0.heap.size)) (F0 mid 394 ls []) := by
    intro F Gf q hF n_
    induction n_ with
    | zero => intro i h1_ h2_; exact absurd h2_ (by omega)
    | succ n_ ih =>
      intro i h1_ h2_ H locs ls G hl kk
      refine lv_iload_n hx hb dX1_init_394 rfl (lv_at hl 0 rfl) ?_
      refine lv_bipush (v := nI 20) hx hb dX1_init_395 (by decide) ?_
      refine nn_cge (tgt := 413) hx hb (by omega) (by omega) dX1_init_397 (by decide) (fun c_ => ?_) (fun c_ => ?_)
      · have hiN : i = 20 := by omega
        subst hiN
        exact kk H locs ls G hl
      · refine lv_aload_n hx hb dX1_init_400 rfl (lv_at hl 1 rfl) ?_
        refine oo_get S G (ci := 1) (Cl := RX1) (T := TX1) (N := 61) rfl in_X1 (r := 0) (by decide) rfl 24 (by decide) (ref := RX1) q1291 (fun x h => h) (v := .ref q) (ow_at (by decide) hF) dX1_init_401 ?_
        refine lv_iload_n hx hb dX1_init_404 rfl (lv_at hl 0 rfl) ?_
        refine lv_iconst (v := (-1)) hx hb dX1_init_405 (by decide) ?_
        refine ww_iast S G (r := 25) (by decide) (show vf_upd Gf 24 _ 24 = _ from vf_at _ _ _) 0 rfl (i := i) (by omega) (by decide) dX1_init_406 (fun H locs G => ?_)
        rw [ow_al, vf_2, lmF_s] at G
        refine lv_iinc (v := nI (i + 1)) (lv' := [(1, .int (nI (i + 1))), (0, .ref a)]) hx hb dX1_init_407 hl (k := 0) rfl (nI_1 _) (by decide) rfl (fun ls hl => ?_)
        refine lv_goto (tgt := 394) hx hb dX1_init_410 (by decide) ?_
        exact ih (i + 1) (by omega) (by omega) H locs ls G hl kk
  have lp2 : ∀ (F : Nat → Value) (Gf : Nat → Option (Nat × va_E)) (q : Nat), F 3 = .ref q → ∀ (n_ i : Nat), i ≤ 120 → 120 < i + n_ → ∀ (H : Heap) (locs : List Loc) (ls : Array Slot), wG D dA (xB (gA (ow0 a)) s0.heap.size) (ow a F (vf_upd Gf 3 (some (q, e_I (dA 0) 120 (lmF i))))) s0 H locs → lv_has ls 2 [(1, .int (nI i)), (0, .ref a)] → (∀ (H : Heap) (locs : List Loc) (ls : Array Slot), wG D dA (xB (gA (ow0 a)) s0.heap.size) (ow a F (vf_upd Gf 3 (some (q, e_I (dA 0) 120 (lmF 120))))) s0 H locs → lv_has ls 2 [(1, .int (nI 120)), (0, .ref a)] → W p0 l e0 (rmN 1 47 3278) s0 mid ([.ref a] : List Value).toArray bl0 me0 co0 H locs 47 3278 (MQ bl0 (gQN D dA (ow0 a) s0.heap.size (fun o w' => o = none ∧ ∃ ad : Nat → Nat, ad 0 = a ∧ w' = mW dA ad pnC nmd)) ([.ref a] : List Value).toArray s0 47 3278 (xB (gA (ow0 a)) s0.heap.size)) (F0 mid 434 ls [])) → W p0 l e0 (rmN 1 47 3278) s0 mid ([.ref a] : List Value).toArray bl0 me0 co0 H locs 47 3278 (MQ bl0 (gQN D dA (ow0 a) s0.heap.size (fun o w' => o = none ∧ ∃ ad : Nat → Nat, ad 0 = a ∧ w' = mW dA ad pnC nmd)) ([.ref a] : List Value).toArray s0 47 3278 (xB (gA (ow0 a)) s0.heap.size)) (F0 mid 415 ls []) := by
    intro F Gf q hF n_
    induction n_ with
    | zero => intro i h1_ h2_; exact absurd h2_ (by omega)
    | succ n_ ih =>
      intro i h1_ h2_ H locs ls G hl kk
      refine lv_iload_n hx hb dX1_init_415 rfl (lv_at hl 0 rfl) ?_
      refine lv_bipush (v := nI 120) hx hb dX1_init_416 (by decide) ?_
      refine nn_cge (tgt := 434) hx hb (by omega) (by omega) dX1_init_418 (by decide) (fun c_ => ?_) (fun c_ => ?_)
      · have hiN : i = 120 := by omega
        subst hiN
        exact kk H locs ls G hl
      · refine lv_aload_n hx hb dX1_init_421 rfl (lv_at hl 1 rfl) ?_
        refine oo_get S G (ci := 1) (Cl := RX1) (T := TX1) (N := 61) rfl in_X1 (r := 0) (by decide) rfl 3 (by decide) (ref := RX1) q1270 (fun x h => h) (v := .ref q) (ow_at (by decide) hF) dX1_init_422 ?_
        refine lv_iload_n hx hb dX1_init_425 rfl (lv_at hl 0 rfl) ?_
        refine lv_iconst (v := (-1)) hx hb dX1_init_426 (by decide) ?_
        refine ww_iast S G (r := 4) (by decide) (show vf_upd Gf 3 _ 3 = _ from vf_at _ _ _) 0 rfl (i := i) (by omega) (by decide) dX1_init_427 (fun H locs G => ?_)
        rw [ow_al, vf_2, lmF_s] at G
        refine lv_iinc (v := nI (i + 1)) (lv' := [(1, .int (nI (i + 1))), (0, .ref a)]) hx hb dX1_init_428 hl (k := 0) rfl (nI_1 _) (by decide) rfl (fun ls hl => ?_)
        refine lv_goto (tgt := 415) hx hb dX1_init_431 (by decide) ?_
        exact ih (i + 1) (by omega) (by omega) H locs ls G hl kk
  refine lv_aload_n hx hb dX1_init_0 rfl (lv_at hl 0 rfl) ?_
  refine ww_obj S q1266 q85 q86 hl.1 dX1_init_1 (Nat.le_of_ble_eq_true rfl) (Nat.le_of_ble_eq_true rfl) ?_
  have G : wG D dA (xB (gA (ow0 a)) s0.heap.size) (ow a of0 (fun _ => none)) s0 s0.heap [] := wG_e (ow0_e a) G
  refine lv_aload_n hx hb dX1_init_4 rfl (lv_at hl 0 rfl) ?_
  refine lv_bipush (v := nI 20) hx hb dX1_init_5 (by decide) ?_
  refine oo_newI S G hA (r := 1 + 1) (by decide) rfl (by omega) (show 0 + 1 ≤ 47 by omega) (show 0 + 20 ≤ 3278 by omega) dX1_init_7 (fun q1 H G => ?_)
  rw [ow_al] at G
  refine w_cs (cells' := 1) (slots' := 20) rfl rfl ?_
  refine oo_put S G (ci := 1) (Cl := RX1) (T := TX1) (N := 61) rfl in_X1 tyX1 tyX1_ok nmX1 (r := 0) (by decide) rfl ow_l 1 (by decide) (ref := RX1) q1268 (fun x h => h) (by first | exact Or.inl rfl | exact Or.inr ⟨rfl, hin, rfl⟩) rfl rfl dX1_init_9 (fun H locs G => ?_)
  rw [ow_pt] at G
  refine lv_aload_n hx hb dX1_init_12 rfl (lv_at hl 0 rfl) ?_
  refine lv_bipush (v := nI 20) hx hb dX1_init_13 (by decide) ?_
  refine ww_newD S G hA (r := 2 + 1) (by decide) rfl (by omega) (show 1 + 1 ≤ 47 by omega) (show 20 + 20 ≤ 3278 by omega) dX1_init_15 (fun q2 H G => ?_)
  rw [ow_al] at G
  refine w_cs (cells' := 2) (slots' := 40) rfl rfl ?_
  refine oo_put S G (ci := 1) (Cl := RX1) (T := TX1) (N := 61) rfl in_X1 tyX1 tyX1_ok nmX1 (r := 0) (by decide) rfl ow_l 2 (by decide) (ref := RX1) q1269 (fun x h => h) (by first | exact Or.inl rfl | exact Or.inr ⟨rfl, hin, rfl⟩) rfl rfl dX1_init_17 (fun H locs G => ?_)
  rw [ow_pt] at G
  refine lv_aload_n hx hb dX1_init_20 rfl (lv_at hl 0 rfl) ?_
  refine lv_bipush (v := nI 120) hx hb dX1_init_21 (by decide) ?_
  refine oo_newI S G hA (r := 3 + 1) (by decide) rfl (by omega) (show 2 + 1 ≤ 47 by omega) (show 40 + 120 ≤ 3278 by omega) dX1_init_23 (fun q3 H G => ?_)
  rw [ow_al] at G
  refine w_cs (cells' := 3) (slots' := 160) rfl rfl ?_
  refine oo_put S G (ci := 1) (Cl := RX1) (T := TX1) (N := 61) rfl in_X1 tyX1 tyX1_ok nmX1 (r := 0) (by decide) rfl ow_l 3 (by decide) (ref := RX1) q1270 (fun x h => h) (by first | exact Or.inl rfl | exact Or.inr ⟨rfl, hin, rfl⟩) rfl rfl dX1_init_25 (fun H locs G => ?_)
  rw [ow_pt] at G
  refine lv_aload_n hx hb dX1_init_28 rfl (lv_at hl 0 rfl) ?_
  refine lv_bipush (v := nI 120) hx hb dX1_init_29 (by decide) ?_
  refine oo_newZ S G hA (r := 4 + 1) (by decide) rfl (by omega) (show 3 + 1 ≤ 47 by omega) (show 160 + 120 ≤ 3278 by omega) dX1_init_31 (fun q4 H G => ?_)
  rw [ow_al] at G
  refine w_cs (cells' := 4) (slots' := 280) rfl rfl ?_
  refine oo_put S G (ci := 1) (Cl := RX1) (T := TX1) (N := 61) rfl in_X1 tyX1 tyX1_ok nmX1 (r := 0) (by decide) rfl ow_l 4 (by decide) (ref := RX1) q1271 (fun x h => h) (by first | exact Or.inl rfl | exact Or.inr ⟨rfl, hin, rfl⟩) rfl rfl dX1_init_33 (fun H locs G => ?_)
  rw [ow_pt] at G
  refine lv_aload_n hx hb dX1_init_36 rfl (lv_at hl 0 rfl) ?_
  refine lv_bipush (v := nI 20) hx hb dX1_init_37 (by decide) ?_
  refine ww_newD S G hA (r := 5 + 1) (by decide) rfl (by omega) (show 4 + 1 ≤ 47 by omega) (show 280 + 20 ≤ 3278 by omega) dX1_init_39 (fun q5 H G => ?_)
  rw [ow_al] at G
  refine w_cs (cells' := 5) (slots' := 300) rfl rfl ?_
  refine oo_put S G (ci := 1) (Cl := RX1) (T := TX1) (N := 61) rfl in_X1 tyX1 tyX1_ok nmX1 (r := 0) (by decide) rfl ow_l 5 (by decide) (ref := RX1) q1272 (fun x h => h) (by first | exact Or.inl rfl | exact Or.inr ⟨rfl, hin, rfl⟩) rfl rfl dX1_init_41 (fun H locs G => ?_)
  rw [ow_pt] at G
  refine lv_aload_n hx hb dX1_init_44 rfl (lv_at hl 0 rfl) ?_
  refine lv_bipush (v := nI 20) hx hb dX1_init_45 (by decide) ?_
  refine oo_newI S G hA (r := 6 + 1) (by decide) rfl (by omega) (show 5 + 1 ≤ 47 by omega) (show 300 + 20 ≤ 3278 by omega) dX1_init_47 (fun q6 H G => ?_)
  rw [ow_al] at G
  refine w_cs (cells' := 6) (slots' := 320) rfl rfl ?_
  refine oo_put S G (ci := 1) (Cl := RX1) (T := TX1) (N := 61) rfl in_X1 tyX1 tyX1_ok nmX1 (r := 0) (by decide) rfl ow_l 6 (by decide) (ref := RX1) q1273 (fun x h => h) (by first | exact Or.inl rfl | exact Or.inr ⟨rfl, hin, rfl⟩) rfl rfl dX1_init_49 (fun H locs G => ?_)
  rw [ow_pt] at G
  refine lv_aload_n hx hb dX1_init_52 rfl (lv_at hl 0 rfl) ?_
  refine lv_sipush (v := nI 160) hx hb dX1_init_53 (by decide) ?_
  refine ww_newD S G hA (r := 7 + 1) (by decide) rfl (by omega) (show 6 + 1 ≤ 47 by omega) (show 320 + 160 ≤ 3278 by omega) dX1_init_56 (fun q7 H G => ?_)
  rw [ow_al] at G
  refine w_cs (cells' := 7) (slots' := 480) rfl rfl ?_
  refine oo_put S G (ci := 1) (Cl := RX1) (T := TX1) (N := 61) rfl in_X1 tyX1 tyX1_ok nmX1 (r := 0) (by decide) rfl ow_l 7 (by decide) (ref := RX1) q1274 (fun x h => h) (by first | exact Or.inl rfl | exact Or.inr ⟨rfl, hin, rfl⟩) rfl rfl dX1_init_58 (fun H locs G => ?_)
  rw [ow_pt] at G
  refine lv_aload_n hx hb dX1_init_61 rfl (lv_at hl 0 rfl) ?_
  refine lv_sipush (v := nI 160) hx hb dX1_init_62 (by decide) ?_
  refine ww_newD S G hA (r := 8 + 1) (by decide) rfl (by omega) (show 7 + 1 ≤ 47 by omega) (show 480 + 160 ≤ 3278 by omega) dX1_init_65 (fun q8 H G => ?_)
  rw [ow_al] at G
  refine w_cs (cells' := 8) (slots' := 640) rfl rfl ?_
  refine oo_put S G (ci := 1) (Cl := RX1) (T := TX1) (N := 61) rfl in_X1 tyX1 tyX1_ok nmX1 (r := 0) (by decide) rfl ow_l 8 (by decide) (ref := RX1) q1275 (fun x h => h) (by first | exact Or.inl rfl | exact Or.inr ⟨rfl, hin, rfl⟩) rfl rfl dX1_init_67 (fun H locs G => ?_)
  rw [ow_pt] at G
  refine lv_aload_n hx hb dX1_init_70 rfl (lv_at hl 0 rfl) ?_
  refine lv_bipush (v := nI 20) hx hb dX1_init_71 (by decide) ?_
  refine oo_newI S G hA (r := 9 + 1) (by decide) rfl (by omega) (show 8 + 1 ≤ 47 by omega) (show 640 + 20 ≤ 3278 by omega) dX1_init_73 (fun q9 H G => ?_)
  rw [ow_al] at G
  refine w_cs (cells' := 9) (slots' := 660) rfl rfl ?_
  refine oo_put S G (ci := 1) (Cl := RX1) (T := TX1) (N := 61) rfl in_X1 tyX1 tyX1_ok nmX1 (r := 0) (by decide) rfl ow_l 9 (by decide) (ref := RX1) q1276 (fun x h => h) (by first | exact Or.inl rfl | exact Or.inr ⟨rfl, hin, rfl⟩) rfl rfl dX1_init_75 (fun H locs G => ?_)
  rw [ow_pt] at G
  refine lv_aload_n hx hb dX1_init_78 rfl (lv_at hl 0 rfl) ?_
  refine lv_bipush (v := nI 20) hx hb dX1_init_79 (by decide) ?_
  refine oo_newI S G hA (r := 10 + 1) (by decide) rfl (by omega) (show 9 + 1 ≤ 47 by omega) (show 660 + 20 ≤ 3278 by omega) dX1_init_81 (fun q10 H G => ?_)
  rw [ow_al] at G
  refine w_cs (cells' := 10) (slots' := 680) rfl rfl ?_
  refine oo_put S G (ci := 1) (Cl := RX1) (T := TX1) (N := 61) rfl in_X1 tyX1 tyX1_ok nmX1 (r := 0) (by decide) rfl ow_l 10 (by decide) (ref := RX1) q1277 (fun x h => h) (by first | exact Or.inl rfl | exact Or.inr ⟨rfl, hin, rfl⟩) rfl rfl dX1_init_83 (fun H locs G => ?_)
  rw [ow_pt] at G
  refine lv_aload_n hx hb dX1_init_86 rfl (lv_at hl 0 rfl) ?_
  refine lv_iconst (v := nI 4) hx hb dX1_init_87 (by decide) ?_
  refine oo_put S G (ci := 1) (Cl := RX1) (T := TX1) (N := 61) rfl in_X1 tyX1 tyX1_ok nmX1 (r := 0) (by decide) rfl ow_l 14 (by decide) (ref := RX1) q1281 (fun x h => h) (by first | exact Or.inl rfl | exact Or.inr ⟨rfl, hin, rfl⟩) rfl rfl dX1_init_88 (fun H locs G => ?_)
  rw [ow_pt] at G
  refine lv_aload_n hx hb dX1_init_91 rfl (lv_at hl 0 rfl) ?_
  refine lv_bipush (v := nI 20) hx hb dX1_init_92 (by decide) ?_
  refine ww_newD S G hA (r := 17 + 1) (by decide) rfl (by omega) (show 10 + 1 ≤ 47 by omega) (show 680 + 20 ≤ 3278 by omega) dX1_init_94 (fun q17 H G => ?_)
  rw [ow_al] at G
  refine w_cs (cells' := 11) (slots' := 700) rfl rfl ?_
  refine oo_put S G (ci := 1) (Cl := RX1) (T := TX1) (N := 61) rfl in_X1 tyX1 tyX1_ok nmX1 (r := 0) (by decide) rfl ow_l 17 (by decide) (ref := RX1) q1284 (fun x h => h) (by first | exact Or.inl rfl | exact Or.inr ⟨rfl, hin, rfl⟩) rfl rfl dX1_init_96 (fun H locs G => ?_)
  rw [ow_pt] at G
  refine lv_aload_n hx hb dX1_init_99 rfl (lv_at hl 0 rfl) ?_
  refine lv_bipush (v := nI 20) hx hb dX1_init_100 (by decide) ?_
  refine ww_newF S G hA (r := 18 + 1) (by decide) rfl (by omega) (show 11 + 1 ≤ 47 by omega) (show 700 + 20 ≤ 3278 by omega) dX1_init_102 (fun q18 H G => ?_)
  rw [ow_al] at G
  refine w_cs (cells' := 12) (slots' := 720) rfl rfl ?_
  refine oo_put S G (ci := 1) (Cl := RX1) (T := TX1) (N := 61) rfl in_X1 tyX1 tyX1_ok nmX1 (r := 0) (by decide) rfl ow_l 18 (by decide) (ref := RX1) q1285 (fun x h => h) (by first | exact Or.inl rfl | exact Or.inr ⟨rfl, hin, rfl⟩) rfl rfl dX1_init_104 (fun H locs G => ?_)
  rw [ow_pt] at G
  refine lv_aload_n hx hb dX1_init_107 rfl (lv_at hl 0 rfl) ?_
  refine lv_bipush (v := nI 20) hx hb dX1_init_108 (by decide) ?_
  refine ww_newD S G hA (r := 19 + 1) (by decide) rfl (by omega) (show 12 + 1 ≤ 47 by omega) (show 720 + 20 ≤ 3278 by omega) dX1_init_110 (fun q19 H G => ?_)
  rw [ow_al] at G
  refine w_cs (cells' := 13) (slots' := 740) rfl rfl ?_
  refine oo_put S G (ci := 1) (Cl := RX1) (T := TX1) (N := 61) rfl in_X1 tyX1 tyX1_ok nmX1 (r := 0) (by decide) rfl ow_l 19 (by decide) (ref := RX1) q1286 (fun x h => h) (by first | exact Or.inl rfl | exact Or.inr ⟨rfl, hin, rfl⟩) rfl rfl dX1_init_112 (fun H locs G => ?_)
  rw [ow_pt] at G
  refine lv_aload_n hx hb dX1_init_115 rfl (lv_at hl 0 rfl) ?_
  refine lv_bipush (v := nI 20) hx hb dX1_init_116 (by decide) ?_
  refine ww_newF S G hA (r := 20 + 1) (by decide) rfl (by omega) (show 13 + 1 ≤ 47 by omega) (show 740 + 20 ≤ 3278 by omega) dX1_init_118 (fun q20 H G => ?_)
  rw [ow_al] at G
  refine w_cs (cells' := 14) (slots' := 760) rfl rfl ?_
  refine oo_put S G (ci := 1) (Cl := RX1) (T := TX1) (N := 61) rfl in_X1 tyX1 tyX1_ok nmX1 (r := 0) (by decide) rfl ow_l 20 (by decide) (ref := RX1) q1287 (fun x h => h) (by first | exact Or.inl rfl | exact Or.inr ⟨rfl, hin, rfl⟩) rfl rfl dX1_init_120 (fun H locs G => ?_)
  rw [ow_pt] at G
  refine lv_aload_n hx hb dX1_init_123 rfl (lv_at hl 0 rfl) ?_
  refine lv_sipush (v := nI 320) hx hb dX1_init_124 (by decide) ?_
  refine ww_newD S G hA (r := 21 + 1) (by decide) rfl (by omega) (show 14 + 1 ≤ 47 by omega) (show 760 + 320 ≤ 3278 by omega) dX1_init_127 (fun q21 H G => ?_)
  rw [ow_al] at G
  refine w_cs (cells' := 15) (slots' := 1080) rfl rfl ?_
  refine oo_put S G (ci := 1) (Cl := RX1) (T := TX1) (N := 61) rfl in_X1 tyX1 tyX1_ok nmX1 (r := 0) (by decide) rfl ow_l 21 (by decide) (ref := RX1) q1288 (fun x h => h) (by first | exact Or.inl rfl | exact Or.inr ⟨rfl, hin, rfl⟩) rfl rfl dX1_init_129 (fun H locs G => ?_)
  rw [ow_pt] at G
  refine lv_aload_n hx hb dX1_init_132 rfl (lv_at hl 0 rfl) ?_
  refine lv_sipush (v := nI 320) hx hb dX1_init_133 (by decide) ?_
  refine ww_newF S G hA (r := 22 + 1) (by decide) rfl (by omega) (show 15 + 1 ≤ 47 by omega) (show 1080 + 320 ≤ 3278 by omega) dX1_init_136 (fun q22 H G => ?_)
  rw [ow_al] at G
  refine w_cs (cells' := 16) (slots' := 1400) rfl rfl ?_
  refine oo_put S G (ci := 1) (Cl := RX1) (T := TX1) (N := 61) rfl in_X1 tyX1 tyX1_ok nmX1 (r := 0) (by decide) rfl ow_l 22 (by decide) (ref := RX1) q1289 (fun x h => h) (by first | exact Or.inl rfl | exact Or.inr ⟨rfl, hin, rfl⟩) rfl rfl dX1_init_138 (fun H locs G => ?_)
  rw [ow_pt] at G
  refine lv_aload_n hx hb dX1_init_141 rfl (lv_at hl 0 rfl) ?_
  refine lv_bipush (v := nI 20) hx hb dX1_init_142 (by decide) ?_
  refine oo_newI S G hA (r := 23 + 1) (by decide) rfl (by omega) (show 16 + 1 ≤ 47 by omega) (show 1400 + 20 ≤ 3278 by omega) dX1_init_144 (fun q23 H G => ?_)
  rw [ow_al] at G
  refine w_cs (cells' := 17) (slots' := 1420) rfl rfl ?_
  refine oo_put S G (ci := 1) (Cl := RX1) (T := TX1) (N := 61) rfl in_X1 tyX1 tyX1_ok nmX1 (r := 0) (by decide) rfl ow_l 23 (by decide) (ref := RX1) q1290 (fun x h => h) (by first | exact Or.inl rfl | exact Or.inr ⟨rfl, hin, rfl⟩) rfl rfl dX1_init_146 (fun H locs G => ?_)
  rw [ow_pt] at G
  refine lv_aload_n hx hb dX1_init_149 rfl (lv_at hl 0 rfl) ?_
  refine lv_bipush (v := nI 20) hx hb dX1_init_150 (by decide) ?_
  refine oo_newI S G hA (r := 24 + 1) (by decide) rfl (by omega) (show 17 + 1 ≤ 47 by omega) (show 1420 + 20 ≤ 3278 by omega) dX1_init_152 (fun q24 H G => ?_)
  rw [ow_al] at G
  refine w_cs (cells' := 18) (slots' := 1440) rfl rfl ?_
  refine oo_put S G (ci := 1) (Cl := RX1) (T := TX1) (N := 61) rfl in_X1 tyX1 tyX1_ok nmX1 (r := 0) (by decide) rfl ow_l 24 (by decide) (ref := RX1) q1291 (fun x h => h) (by first | exact Or.inl rfl | exact Or.inr ⟨rfl, hin, rfl⟩) rfl rfl dX1_init_154 (fun H locs G => ?_)
  rw [ow_pt] at G
  refine lv_aload_n hx hb dX1_init_157 rfl (lv_at hl 0 rfl) ?_
  refine lv_bipush (v := nI 20) hx hb dX1_init_158 (by decide) ?_
  refine ww_newD S G hA (r := 25 + 1) (by decide) rfl (by omega) (show 18 + 1 ≤ 47 by omega) (show 1440 + 20 ≤ 3278 by omega) dX1_init_160 (fun q25 H G => ?_)
  rw [ow_al] at G
  refine w_cs (cells' := 19) (slots' := 1460) rfl rfl ?_
  refine oo_put S G (ci := 1) (Cl := RX1) (T := TX1) (N := 61) rfl in_X1 tyX1 tyX1_ok nmX1 (r := 0) (by decide) rfl ow_l 25 (by decide) (ref := RX1) q1292 (fun x h => h) (by first | exact Or.inl rfl | exact Or.inr ⟨rfl, hin, rfl⟩) rfl rfl dX1_init_162 (fun H locs G => ?_)
  rw [ow_pt] at G
  refine lv_aload_n hx hb dX1_init_165 rfl (lv_at hl 0 rfl) ?_
  refine lv_bipush (v := nI 20) hx hb dX1_init_166 (by decide) ?_
  refine ww_newD S G hA (r := 26 + 1) (by decide) rfl (by omega) (show 19 + 1 ≤ 47 by omega) (show 1460 + 20 ≤ 3278 by omega) dX1_init_168 (fun q26 H G => ?_)
  rw [ow_al] at G
  refine w_cs (cells' := 20) (slots' := 1480) rfl rfl ?_
  refine oo_put S G (ci := 1) (Cl := RX1) (T := TX1) (N := 61) rfl in_X1 tyX1 tyX1_ok nmX1 (r := 0) (by decide) rfl ow_l 26 (by decide) (ref := RX1) q1293 (fun x h => h) (by first | exact Or.inl rfl | exact Or.inr ⟨rfl, hin, rfl⟩) rfl rfl dX1_init_170 (fun H locs G => ?_)
  rw [ow_pt] at G
  refine lv_aload_n hx hb dX1_init_173 rfl (lv_at hl 0 rfl) ?_
  refine lv_bipush (v := nI 20) hx hb dX1_init_174 (by decide) ?_
  refine ww_newD S G hA (r := 27 + 1) (by decide) rfl (by omega) (show 20 + 1 ≤ 47 by omega) (show 1480 + 20 ≤ 3278 by omega) dX1_init_176 (fun q27 H G => ?_)
  rw [ow_al] at G
  refine w_cs (cells' := 21) (slots' := 1500) rfl rfl ?_
  refine oo_put S G (ci := 1) (Cl := RX1) (T := TX1) (N := 61) rfl in_X1 tyX1 tyX1_ok nmX1 (r := 0) (by decide) rfl ow_l 27 (by decide) (ref := RX1) q1294 (fun x h => h) (by first | exact Or.inl rfl | exact Or.inr ⟨rfl, hin, rfl⟩) rfl rfl dX1_init_178 (fun H locs G => ?_)
  rw [ow_pt] at G
  refine lv_aload_n hx hb dX1_init_181 rfl (lv_at hl 0 rfl) ?_
  refine lv_bipush (v := nI 20) hx hb dX1_init_182 (by decide) ?_
  refine ww_newF S G hA (r := 28 + 1) (by decide) rfl (by omega) (show 21 + 1 ≤ 47 by omega) (show 1500 + 20 ≤ 3278 by omega) dX1_init_184 (fun q28 H G => ?_)
  rw [ow_al] at G
  refine w_cs (cells' := 22) (slots' := 1520) rfl rfl ?_
  refine oo_put S G (ci := 1) (Cl := RX1) (T := TX1) (N := 61) rfl in_X1 tyX1 tyX1_ok nmX1 (r := 0) (by decide) rfl ow_l 28 (by decide) (ref := RX1) q1295 (fun x h => h) (by first | exact Or.inl rfl | exact Or.inr ⟨rfl, hin, rfl⟩) rfl rfl dX1_init_186 (fun H locs G => ?_)
  rw [ow_pt] at G
  refine lv_aload_n hx hb dX1_init_189 rfl (lv_at hl 0 rfl) ?_
  refine lv_bipush (v := nI 20) hx hb dX1_init_190 (by decide) ?_
  refine ww_newD S G hA (r := 29 + 1) (by decide) rfl (by omega) (show 22 + 1 ≤ 47 by omega) (show 1520 + 20 ≤ 3278 by omega) dX1_init_192 (fun q29 H G => ?_)
  rw [ow_al] at G
  refine w_cs (cells' := 23) (slots' := 1540) rfl rfl ?_
  refine oo_put S G (ci := 1) (Cl := RX1) (T := TX1) (N := 61) rfl in_X1 tyX1 tyX1_ok nmX1 (r := 0) (by decide) rfl ow_l 29 (by decide) (ref := RX1) q1296 (fun x h => h) (by first | exact Or.inl rfl | exact Or.inr ⟨rfl, hin, rfl⟩) rfl rfl dX1_init_194 (fun H locs G => ?_)
  rw [ow_pt] at G
  refine lv_aload_n hx hb dX1_init_197 rfl (lv_at hl 0 rfl) ?_
  refine lv_bipush (v := nI 20) hx hb dX1_init_198 (by decide) ?_
  refine ww_newF S G hA (r := 30 + 1) (by decide) rfl (by omega) (show 23 + 1 ≤ 47 by omega) (show 1540 + 20 ≤ 3278 by omega) dX1_init_200 (fun q30 H G => ?_)
  rw [ow_al] at G
  refine w_cs (cells' := 24) (slots' := 1560) rfl rfl ?_
  refine oo_put S G (ci := 1) (Cl := RX1) (T := TX1) (N := 61) rfl in_X1 tyX1 tyX1_ok nmX1 (r := 0) (by decide) rfl ow_l 30 (by decide) (ref := RX1) q1297 (fun x h => h) (by first | exact Or.inl rfl | exact Or.inr ⟨rfl, hin, rfl⟩) rfl rfl dX1_init_202 (fun H locs G => ?_)
  rw [ow_pt] at G
  refine lv_aload_n hx hb dX1_init_205 rfl (lv_at hl 0 rfl) ?_
  refine lv_sipush (v := nI 320) hx hb dX1_init_206 (by decide) ?_
  refine ww_newD S G hA (r := 31 + 1) (by decide) rfl (by omega) (show 24 + 1 ≤ 47 by omega) (show 1560 + 320 ≤ 3278 by omega) dX1_init_209 (fun q31 H G => ?_)
  rw [ow_al] at G
  refine w_cs (cells' := 25) (slots' := 1880) rfl rfl ?_
  refine oo_put S G (ci := 1) (Cl := RX1) (T := TX1) (N := 61) rfl in_X1 tyX1 tyX1_ok nmX1 (r := 0) (by decide) rfl ow_l 31 (by decide) (ref := RX1) q1298 (fun x h => h) (by first | exact Or.inl rfl | exact Or.inr ⟨rfl, hin, rfl⟩) rfl rfl dX1_init_211 (fun H locs G => ?_)
  rw [ow_pt] at G
  refine lv_aload_n hx hb dX1_init_214 rfl (lv_at hl 0 rfl) ?_
  refine lv_sipush (v := nI 320) hx hb dX1_init_215 (by decide) ?_
  refine ww_newF S G hA (r := 32 + 1) (by decide) rfl (by omega) (show 25 + 1 ≤ 47 by omega) (show 1880 + 320 ≤ 3278 by omega) dX1_init_218 (fun q32 H G => ?_)
  rw [ow_al] at G
  refine w_cs (cells' := 26) (slots' := 2200) rfl rfl ?_
  refine oo_put S G (ci := 1) (Cl := RX1) (T := TX1) (N := 61) rfl in_X1 tyX1 tyX1_ok nmX1 (r := 0) (by decide) rfl ow_l 32 (by decide) (ref := RX1) q1299 (fun x h => h) (by first | exact Or.inl rfl | exact Or.inr ⟨rfl, hin, rfl⟩) rfl rfl dX1_init_220 (fun H locs G => ?_)
  rw [ow_pt] at G
  refine lv_aload_n hx hb dX1_init_223 rfl (lv_at hl 0 rfl) ?_
  refine lv_bipush (v := nI 20) hx hb dX1_init_224 (by decide) ?_
  refine oo_newI S G hA (r := 33 + 1) (by decide) rfl (by omega) (show 26 + 1 ≤ 47 by omega) (show 2200 + 20 ≤ 3278 by omega) dX1_init_226 (fun q33 H G => ?_)
  rw [ow_al] at G
  refine w_cs (cells' := 27) (slots' := 2220) rfl rfl ?_
  refine oo_put S G (ci := 1) (Cl := RX1) (T := TX1) (N := 61) rfl in_X1 tyX1 tyX1_ok nmX1 (r := 0) (by decide) rfl ow_l 33 (by decide) (ref := RX1) q1300 (fun x h => h) (by first | exact Or.inl rfl | exact Or.inr ⟨rfl, hin, rfl⟩) rfl rfl dX1_init_228 (fun H locs G => ?_)
  rw [ow_pt] at G
  refine lv_aload_n hx hb dX1_init_231 rfl (lv_at hl 0 rfl) ?_
  refine lv_bipush (v := nI 20) hx hb dX1_init_232 (by decide) ?_
  refine oo_newI S G hA (r := 34 + 1) (by decide) rfl (by omega) (show 27 + 1 ≤ 47 by omega) (show 2220 + 20 ≤ 3278 by omega) dX1_init_234 (fun q34 H G => ?_)
  rw [ow_al] at G
  refine w_cs (cells' := 28) (slots' := 2240) rfl rfl ?_
  refine oo_put S G (ci := 1) (Cl := RX1) (T := TX1) (N := 61) rfl in_X1 tyX1 tyX1_ok nmX1 (r := 0) (by decide) rfl ow_l 34 (by decide) (ref := RX1) q1301 (fun x h => h) (by first | exact Or.inl rfl | exact Or.inr ⟨rfl, hin, rfl⟩) rfl rfl dX1_init_236 (fun H locs G => ?_)
  rw [ow_pt] at G
  refine lv_aload_n hx hb dX1_init_239 rfl (lv_at hl 0 rfl) ?_
  refine lv_bipush (v := nI 20) hx hb dX1_init_240 (by decide) ?_
  refine ww_newD S G hA (r := 35 + 1) (by decide) rfl (by omega) (show 28 + 1 ≤ 47 by omega) (show 2240 + 20 ≤ 3278 by omega) dX1_init_242 (fun q35 H G => ?_)
  rw [ow_al] at G
  refine w_cs (cells' := 29) (slots' := 2260) rfl rfl ?_
  refine oo_put S G (ci := 1) (Cl := RX1) (T := TX1) (N := 61) rfl in_X1 tyX1 tyX1_ok nmX1 (r := 0) (by decide) rfl ow_l 35 (by decide) (ref := RX1) q1302 (fun x h => h) (by first | exact Or.inl rfl | exact Or.inr ⟨rfl, hin, rfl⟩) rfl rfl dX1_init_244 (fun H locs G => ?_)
  rw [ow_pt] at G
  refine lv_aload_n hx hb dX1_init_247 rfl (lv_at hl 0 rfl) ?_
  refine lv_bipush (v := nI 20) hx hb dX1_init_248 (by decide) ?_
  refine ww_newD S G hA (r := 36 + 1) (by decide) rfl (by omega) (show 29 + 1 ≤ 47 by omega) (show 2260 + 20 ≤ 3278 by omega) dX1_init_250 (fun q36 H G => ?_)
  rw [ow_al] at G
  refine w_cs (cells' := 30) (slots' := 2280) rfl rfl ?_
  refine oo_put S G (ci := 1) (Cl := RX1) (T := TX1) (N := 61) rfl in_X1 tyX1 tyX1_ok nmX1 (r := 0) (by decide) rfl ow_l 36 (by decide) (ref := RX1) q1303 (fun x h => h) (by first | exact Or.inl rfl | exact Or.inr ⟨rfl, hin, rfl⟩) rfl rfl dX1_init_252 (fun H locs G => ?_)
  rw [ow_pt] at G
  refine lv_aload_n hx hb dX1_init_255 rfl (lv_at hl 0 rfl) ?_
  refine lv_bipush (v := nI 6) hx hb dX1_init_256 (by decide) ?_
  refine oo_newI S G hA (r := 38 + 1) (by decide) rfl (by omega) (show 30 + 1 ≤ 47 by omega) (show 2280 + 6 ≤ 3278 by omega) dX1_init_258 (fun q38 H G => ?_)
  rw [ow_al] at G
  refine w_cs (cells' := 31) (slots' := 2286) rfl rfl ?_
  refine oo_put S G (ci := 1) (Cl := RX1) (T := TX1) (N := 61) rfl in_X1 tyX1 tyX1_ok nmX1 (r := 0) (by decide) rfl ow_l 38 (by decide) (ref := RX1) q1305 (fun x h => h) (by first | exact Or.inl rfl | exact Or.inr ⟨rfl, hin, rfl⟩) rfl rfl dX1_init_260 (fun H locs G => ?_)
  rw [ow_pt] at G
  refine lv_aload_n hx hb dX1_init_263 rfl (lv_at hl 0 rfl) ?_
  refine lv_bipush (v := nI 6) hx hb dX1_init_264 (by decide) ?_
  refine oo_newI S G hA (r := 39 + 1) (by decide) rfl (by omega) (show 31 + 1 ≤ 47 by omega) (show 2286 + 6 ≤ 3278 by omega) dX1_init_266 (fun q39 H G => ?_)
  rw [ow_al] at G
  refine w_cs (cells' := 32) (slots' := 2292) rfl rfl ?_
  refine oo_put S G (ci := 1) (Cl := RX1) (T := TX1) (N := 61) rfl in_X1 tyX1 tyX1_ok nmX1 (r := 0) (by decide) rfl ow_l 39 (by decide) (ref := RX1) q1306 (fun x h => h) (by first | exact Or.inl rfl | exact Or.inr ⟨rfl, hin, rfl⟩) rfl rfl dX1_init_268 (fun H locs G => ?_)
  rw [ow_pt] at G
  refine lv_aload_n hx hb dX1_init_271 rfl (lv_at hl 0 rfl) ?_
  refine lv_sipush (v := nI 720) hx hb dX1_init_272 (by decide) ?_
  refine ww_newD S G hA (r := 40 + 1) (by decide) rfl (by omega) (show 32 + 1 ≤ 47 by omega) (show 2292 + 720 ≤ 3278 by omega) dX1_init_275 (fun q40 H G => ?_)
  rw [ow_al] at G
  refine w_cs (cells' := 33) (slots' := 3012) rfl rfl ?_
  refine oo_put S G (ci := 1) (Cl := RX1) (T := TX1) (N := 61) rfl in_X1 tyX1 tyX1_ok nmX1 (r := 0) (by decide) rfl ow_l 40 (by decide) (ref := RX1) q1307 (fun x h => h) (by first | exact Or.inl rfl | exact Or.inr ⟨rfl, hin, rfl⟩) rfl rfl dX1_init_277 (fun H locs G => ?_)
  rw [ow_pt] at G
  refine lv_aload_n hx hb dX1_init_280 rfl (lv_at hl 0 rfl) ?_
  refine lv_bipush (v := nI 6) hx hb dX1_init_281 (by decide) ?_
  refine ww_newD S G hA (r := 42 + 1) (by decide) rfl (by omega) (show 33 + 1 ≤ 47 by omega) (show 3012 + 6 ≤ 3278 by omega) dX1_init_283 (fun q42 H G => ?_)
  rw [ow_al] at G
  refine w_cs (cells' := 34) (slots' := 3018) rfl rfl ?_
  refine oo_put S G (ci := 1) (Cl := RX1) (T := TX1) (N := 61) rfl in_X1 tyX1 tyX1_ok nmX1 (r := 0) (by decide) rfl ow_l 42 (by decide) (ref := RX1) q1309 (fun x h => h) (by first | exact Or.inl rfl | exact Or.inr ⟨rfl, hin, rfl⟩) rfl rfl dX1_init_285 (fun H locs G => ?_)
  rw [ow_pt] at G
  refine lv_aload_n hx hb dX1_init_288 rfl (lv_at hl 0 rfl) ?_
  refine lv_bipush (v := nI 20) hx hb dX1_init_289 (by decide) ?_
  refine oo_newZ S G hA (r := 43 + 1) (by decide) rfl (by omega) (show 34 + 1 ≤ 47 by omega) (show 3018 + 20 ≤ 3278 by omega) dX1_init_291 (fun q43 H G => ?_)
  rw [ow_al] at G
  refine w_cs (cells' := 35) (slots' := 3038) rfl rfl ?_
  refine oo_put S G (ci := 1) (Cl := RX1) (T := TX1) (N := 61) rfl in_X1 tyX1 tyX1_ok nmX1 (r := 0) (by decide) rfl ow_l 43 (by decide) (ref := RX1) q1310 (fun x h => h) (by first | exact Or.inl rfl | exact Or.inr ⟨rfl, hin, rfl⟩) rfl rfl dX1_init_293 (fun H locs G => ?_)
  rw [ow_pt] at G
  refine lv_aload_n hx hb dX1_init_296 rfl (lv_at hl 0 rfl) ?_
  refine lv_bipush (v := nI 20) hx hb dX1_init_297 (by decide) ?_
  refine ww_newD S G hA (r := 46 + 1) (by decide) rfl (by omega) (show 35 + 1 ≤ 47 by omega) (show 3038 + 20 ≤ 3278 by omega) dX1_init_299 (fun q46 H G => ?_)
  rw [ow_al] at G
  refine w_cs (cells' := 36) (slots' := 3058) rfl rfl ?_
  refine oo_put S G (ci := 1) (Cl := RX1) (T := TX1) (N := 61) rfl in_X1 tyX1 tyX1_ok nmX1 (r := 0) (by decide) rfl ow_l 46 (by decide) (ref := RX1) q1313 (fun x h => h) (by first | exact Or.inl rfl | exact Or.inr ⟨rfl, hin, rfl⟩) rfl rfl dX1_init_301 (fun H locs G => ?_)
  rw [ow_pt] at G
  refine lv_aload_n hx hb dX1_init_304 rfl (lv_at hl 0 rfl) ?_
  refine lv_bipush (v := nI 20) hx hb dX1_init_305 (by decide) ?_
  refine ww_newD S G hA (r := 47 + 1) (by decide) rfl (by omega) (show 36 + 1 ≤ 47 by omega) (show 3058 + 20 ≤ 3278 by omega) dX1_init_307 (fun q47 H G => ?_)
  rw [ow_al] at G
  refine w_cs (cells' := 37) (slots' := 3078) rfl rfl ?_
  refine oo_put S G (ci := 1) (Cl := RX1) (T := TX1) (N := 61) rfl in_X1 tyX1 tyX1_ok nmX1 (r := 0) (by decide) rfl ow_l 47 (by decide) (ref := RX1) q1314 (fun x h => h) (by first | exact Or.inl rfl | exact Or.inr ⟨rfl, hin, rfl⟩) rfl rfl dX1_init_309 (fun H locs G => ?_)
  rw [ow_pt] at G
  refine lv_aload_n hx hb dX1_init_312 rfl (lv_at hl 0 rfl) ?_
  refine lv_bipush (v := nI 20) hx hb dX1_init_313 (by decide) ?_
  refine ww_newD S G hA (r := 48 + 1) (by decide) rfl (by omega) (show 37 + 1 ≤ 47 by omega) (show 3078 + 20 ≤ 3278 by omega) dX1_init_315 (fun q48 H G => ?_)
  rw [ow_al] at G
  refine w_cs (cells' := 38) (slots' := 3098) rfl rfl ?_
  refine oo_put S G (ci := 1) (Cl := RX1) (T := TX1) (N := 61) rfl in_X1 tyX1 tyX1_ok nmX1 (r := 0) (by decide) rfl ow_l 48 (by decide) (ref := RX1) q1315 (fun x h => h) (by first | exact Or.inl rfl | exact Or.inr ⟨rfl, hin, rfl⟩) rfl rfl dX1_init_317 (fun H locs G => ?_)
  rw [ow_pt] at G
  refine lv_aload_n hx hb dX1_init_320 rfl (lv_at hl 0 rfl) ?_
  refine lv_bipush (v := nI 20) hx hb dX1_init_321 (by decide) ?_
  refine ww_newD S G hA (r := 49 + 1) (by decide) rfl (by omega) (show 38 + 1 ≤ 47 by omega) (show 3098 + 20 ≤ 3278 by omega) dX1_init_323 (fun q49 H G => ?_)
  rw [ow_al] at G
  refine w_cs (cells' := 39) (slots' := 3118) rfl rfl ?_
  refine oo_put S G (ci := 1) (Cl := RX1) (T := TX1) (N := 61) rfl in_X1 tyX1 tyX1_ok nmX1 (r := 0) (by decide) rfl ow_l 49 (by decide) (ref := RX1) q1316 (fun x h => h) (by first | exact Or.inl rfl | exact Or.inr ⟨rfl, hin, rfl⟩) rfl rfl dX1_init_325 (fun H locs G => ?_)
  rw [ow_pt] at G
  refine lv_aload_n hx hb dX1_init_328 rfl (lv_at hl 0 rfl) ?_
  refine lv_bipush (v := nI 20) hx hb dX1_init_329 (by decide) ?_
  refine ww_newF S G hA (r := 50 + 1) (by decide) rfl (by omega) (show 39 + 1 ≤ 47 by omega) (show 3118 + 20 ≤ 3278 by omega) dX1_init_331 (fun q50 H G => ?_)
  rw [ow_al] at G
  refine w_cs (cells' := 40) (slots' := 3138) rfl rfl ?_
  refine oo_put S G (ci := 1) (Cl := RX1) (T := TX1) (N := 61) rfl in_X1 tyX1 tyX1_ok nmX1 (r := 0) (by decide) rfl ow_l 50 (by decide) (ref := RX1) q1317 (fun x h => h) (by first | exact Or.inl rfl | exact Or.inr ⟨rfl, hin, rfl⟩) rfl rfl dX1_init_333 (fun H locs G => ?_)
  rw [ow_pt] at G
  refine lv_aload_n hx hb dX1_init_336 rfl (lv_at hl 0 rfl) ?_
  refine lv_bipush (v := nI 20) hx hb dX1_init_337 (by decide) ?_
  refine ww_newF S G hA (r := 51 + 1) (by decide) rfl (by omega) (show 40 + 1 ≤ 47 by omega) (show 3138 + 20 ≤ 3278 by omega) dX1_init_339 (fun q51 H G => ?_)
  rw [ow_al] at G
  refine w_cs (cells' := 41) (slots' := 3158) rfl rfl ?_
  refine oo_put S G (ci := 1) (Cl := RX1) (T := TX1) (N := 61) rfl in_X1 tyX1 tyX1_ok nmX1 (r := 0) (by decide) rfl ow_l 51 (by decide) (ref := RX1) q1318 (fun x h => h) (by first | exact Or.inl rfl | exact Or.inr ⟨rfl, hin, rfl⟩) rfl rfl dX1_init_341 (fun H locs G => ?_)
  rw [ow_pt] at G
  refine lv_aload_n hx hb dX1_init_344 rfl (lv_at hl 0 rfl) ?_
  refine lv_bipush (v := nI 20) hx hb dX1_init_345 (by decide) ?_
  refine ww_newF S G hA (r := 52 + 1) (by decide) rfl (by omega) (show 41 + 1 ≤ 47 by omega) (show 3158 + 20 ≤ 3278 by omega) dX1_init_347 (fun q52 H G => ?_)
  rw [ow_al] at G
  refine w_cs (cells' := 42) (slots' := 3178) rfl rfl ?_
  refine oo_put S G (ci := 1) (Cl := RX1) (T := TX1) (N := 61) rfl in_X1 tyX1 tyX1_ok nmX1 (r := 0) (by decide) rfl ow_l 52 (by decide) (ref := RX1) q1319 (fun x h => h) (by first | exact Or.inl rfl | exact Or.inr ⟨rfl, hin, rfl⟩) rfl rfl dX1_init_349 (fun H locs G => ?_)
  rw [ow_pt] at G
  refine lv_aload_n hx hb dX1_init_352 rfl (lv_at hl 0 rfl) ?_
  refine lv_bipush (v := nI 20) hx hb dX1_init_353 (by decide) ?_
  refine ww_newF S G hA (r := 53 + 1) (by decide) rfl (by omega) (show 42 + 1 ≤ 47 by omega) (show 3178 + 20 ≤ 3278 by omega) dX1_init_355 (fun q53 H G => ?_)
  rw [ow_al] at G
  refine w_cs (cells' := 43) (slots' := 3198) rfl rfl ?_
  refine oo_put S G (ci := 1) (Cl := RX1) (T := TX1) (N := 61) rfl in_X1 tyX1 tyX1_ok nmX1 (r := 0) (by decide) rfl ow_l 53 (by decide) (ref := RX1) q1320 (fun x h => h) (by first | exact Or.inl rfl | exact Or.inr ⟨rfl, hin, rfl⟩) rfl rfl dX1_init_357 (fun H locs G => ?_)
  rw [ow_pt] at G
  refine lv_aload_n hx hb dX1_init_360 rfl (lv_at hl 0 rfl) ?_
  refine lv_bipush (v := nI 20) hx hb dX1_init_361 (by decide) ?_
  refine ww_newD S G hA (r := 54 + 1) (by decide) rfl (by omega) (show 43 + 1 ≤ 47 by omega) (show 3198 + 20 ≤ 3278 by omega) dX1_init_363 (fun q54 H G => ?_)
  rw [ow_al] at G
  refine w_cs (cells' := 44) (slots' := 3218) rfl rfl ?_
  refine oo_put S G (ci := 1) (Cl := RX1) (T := TX1) (N := 61) rfl in_X1 tyX1 tyX1_ok nmX1 (r := 0) (by decide) rfl ow_l 54 (by decide) (ref := RX1) q1321 (fun x h => h) (by first | exact Or.inl rfl | exact Or.inr ⟨rfl, hin, rfl⟩) rfl rfl dX1_init_365 (fun H locs G => ?_)
  rw [ow_pt] at G
  refine lv_aload_n hx hb dX1_init_368 rfl (lv_at hl 0 rfl) ?_
  refine lv_bipush (v := nI 20) hx hb dX1_init_369 (by decide) ?_
  refine ww_newF S G hA (r := 55 + 1) (by decide) rfl (by omega) (show 44 + 1 ≤ 47 by omega) (show 3218 + 20 ≤ 3278 by omega) dX1_init_371 (fun q55 H G => ?_)
  rw [ow_al] at G
  refine w_cs (cells' := 45) (slots' := 3238) rfl rfl ?_
  refine oo_put S G (ci := 1) (Cl := RX1) (T := TX1) (N := 61) rfl in_X1 tyX1 tyX1_ok nmX1 (r := 0) (by decide) rfl ow_l 55 (by decide) (ref := RX1) q1322 (fun x h => h) (by first | exact Or.inl rfl | exact Or.inr ⟨rfl, hin, rfl⟩) rfl rfl dX1_init_373 (fun H locs G => ?_)
  rw [ow_pt] at G
  refine lv_aload_n hx hb dX1_init_376 rfl (lv_at hl 0 rfl) ?_
  refine lv_bipush (v := nI 20) hx hb dX1_init_377 (by decide) ?_
  refine ww_newD S G hA (r := 56 + 1) (by decide) rfl (by omega) (show 45 + 1 ≤ 47 by omega) (show 3238 + 20 ≤ 3278 by omega) dX1_init_379 (fun q56 H G => ?_)
  rw [ow_al] at G
  refine w_cs (cells' := 46) (slots' := 3258) rfl rfl ?_
  refine oo_put S G (ci := 1) (Cl := RX1) (T := TX1) (N := 61) rfl in_X1 tyX1 tyX1_ok nmX1 (r := 0) (by decide) rfl ow_l 56 (by decide) (ref := RX1) q1323 (fun x h => h) (by first | exact Or.inl rfl | exact Or.inr ⟨rfl, hin, rfl⟩) rfl rfl dX1_init_381 (fun H locs G => ?_)
  rw [ow_pt] at G
  refine lv_aload_n hx hb dX1_init_384 rfl (lv_at hl 0 rfl) ?_
  refine lv_bipush (v := nI 20) hx hb dX1_init_385 (by decide) ?_
  refine ww_newF S G hA (r := 57 + 1) (by decide) rfl (by omega) (show 46 + 1 ≤ 47 by omega) (show 3258 + 20 ≤ 3278 by omega) dX1_init_387 (fun q57 H G => ?_)
  rw [ow_al] at G
  refine w_cs (cells' := 47) (slots' := 3278) rfl rfl ?_
  refine oo_put S G (ci := 1) (Cl := RX1) (T := TX1) (N := 61) rfl in_X1 tyX1 tyX1_ok nmX1 (r := 0) (by decide) rfl ow_l 57 (by decide) (ref := RX1) q1324 (fun x h => h) (by first | exact Or.inl rfl | exact Or.inr ⟨rfl, hin, rfl⟩) rfl rfl dX1_init_389 (fun H locs G => ?_)
  rw [ow_pt] at G
  refine lv_iconst (v := nI 0) hx hb dX1_init_392 (by decide) ?_
  refine lv_istore_n (lv' := [(1, .int (nI 0)), (0, .ref a)]) hx hb dX1_init_393 rfl hl (by decide) rfl (fun ls hl => ?_)
  obtain ⟨F, hF⟩ : ∃ F, F = (vf_upd (vf_upd (vf_upd (vf_upd (vf_upd (vf_upd (vf_upd (vf_upd (vf_upd (vf_upd (vf_upd (vf_upd (vf_upd (vf_upd (vf_upd (vf_upd (vf_upd (vf_upd (vf_upd (vf_upd (vf_upd (vf_upd (vf_upd (vf_upd (vf_upd (vf_upd (vf_upd (vf_upd (vf_upd (vf_upd (vf_upd (vf_upd (vf_upd (vf_upd (vf_upd (vf_upd (vf_upd (vf_upd (vf_upd (vf_upd (vf_upd (vf_upd (vf_upd (vf_upd (vf_upd (vf_upd (vf_upd (vf_upd of0 1 (.ref q1)) 2 (.ref q2)) 3 (.ref q3)) 4 (.ref q4)) 5 (.ref q5)) 6 (.ref q6)) 7 (.ref q7)) 8 (.ref q8)) 9 (.ref q9)) 10 (.ref q10)) 14 (.int (nI 4))) 17 (.ref q17)) 18 (.ref q18)) 19 (.ref q19)) 20 (.ref q20)) 21 (.ref q21)) 22 (.ref q22)) 23 (.ref q23)) 24 (.ref q24)) 25 (.ref q25)) 26 (.ref q26)) 27 (.ref q27)) 28 (.ref q28)) 29 (.ref q29)) 30 (.ref q30)) 31 (.ref q31)) 32 (.ref q32)) 33 (.ref q33)) 34 (.ref q34)) 35 (.ref q35)) 36 (.ref q36)) 38 (.ref q38)) 39 (.ref q39)) 40 (.ref q40)) 42 (.ref q42)) 43 (.ref q43)) 46 (.ref q46)) 47 (.ref q47)) 48 (.ref q48)) 49 (.ref q49)) 50 (.ref q50)) 51 (.ref q51)) 52 (.ref q52)) 53 (.ref q53)) 54 (.ref q54)) 55 (.ref q55)) 56 (.ref q56)) 57 (.ref q57)) := ⟨_, rfl⟩
  obtain ⟨Gf, hGf⟩ : ∃ g, g = (vf_upd (vf_upd (vf_upd (vf_upd (vf_upd (vf_upd (vf_upd (vf_upd (vf_upd (vf_upd (vf_upd (vf_upd (vf_upd (vf_upd (vf_upd (vf_upd (vf_upd (vf_upd (vf_upd (vf_upd (vf_upd (vf_upd (vf_upd (vf_upd (vf_upd (vf_upd (vf_upd (vf_upd (vf_upd (vf_upd (vf_upd (vf_upd (vf_upd (vf_upd (vf_upd (vf_upd (vf_upd (vf_upd (vf_upd (vf_upd (vf_upd (vf_upd (vf_upd (vf_upd (vf_upd (vf_upd (vf_upd (fun _ => none) 1 (some (q1, e_I (dA 0) 20 (fun _ => 0)))) 2 (some (q2, e_D (dA 2) 20 (fun _ => FP.dconst0)))) 3 (some (q3, e_I (dA 0) 120 (fun _ => 0)))) 4 (some (q4, e_I (dA 1) 120 (fun _ => 0)))) 5 (some (q5, e_D (dA 2) 20 (fun _ => FP.dconst0)))) 6 (some (q6, e_I (dA 0) 20 (fun _ => 0)))) 7 (some (q7, e_D (dA 2) 160 (fun _ => FP.dconst0)))) 8 (some (q8, e_D (dA 2) 160 (fun _ => FP.dconst0)))) 9 (some (q9, e_I (dA 0) 20 (fun _ => 0)))) 10 (some (q10, e_I (dA 0) 20 (fun _ => 0)))) 17 (some (q17, e_D (dA 2) 20 (fun _ => FP.dconst0)))) 18 (some (q18, e_F (dA 3) 20 (fun _ => FP.fconst0)))) 19 (some (q19, e_D (dA 2) 20 (fun _ => FP.dconst0)))) 20 (some (q20, e_F (dA 3) 20 (fun _ => FP.fconst0)))) 21 (some (q21, e_D (dA 2) 320 (fun _ => FP.dconst0)))) 22 (some (q22, e_F (dA 3) 320 (fun _ => FP.fconst0)))) 23 (some (q23, e_I (dA 0) 20 (fun _ => 0)))) 24 (some (q24, e_I (dA 0) 20 (fun _ => 0)))) 25 (some (q25, e_D (dA 2) 20 (fun _ => FP.dconst0)))) 26 (some (q26, e_D (dA 2) 20 (fun _ => FP.dconst0)))) 27 (some (q27, e_D (dA 2) 20 (fun _ => FP.dconst0)))) 28 (some (q28, e_F (dA 3) 20 (fun _ => FP.fconst0)))) 29 (some (q29, e_D (dA 2) 20 (fun _ => FP.dconst0)))) 30 (some (q30, e_F (dA 3) 20 (fun _ => FP.fconst0)))) 31 (some (q31, e_D (dA 2) 320 (fun _ => FP.dconst0)))) 32 (some (q32, e_F (dA 3) 320 (fun _ => FP.fconst0)))) 33 (some (q33, e_I (dA 0) 20 (fun _ => 0)))) 34 (some (q34, e_I (dA 0) 20 (fun _ => 0)))) 35 (some (q35, e_D (dA 2) 20 (fun _ => FP.dconst0)))) 36 (some (q36, e_D (dA 2) 20 (fun _ => FP.dconst0)))) 38 (some (q38, e_I (dA 0) 6 (fun _ => 0)))) 39 (some (q39, e_I (dA 0) 6 (fun _ => 0)))) 40 (some (q40, e_D (dA 2) 720 (fun _ => FP.dconst0)))) 42 (some (q42, e_D (dA 2) 6 (fun _ => FP.dconst0)))) 43 (some (q43, e_I (dA 1) 20 (fun _ => 0)))) 46 (some (q46, e_D (dA 2) 20 (fun _ => FP.dconst0)))) 47 (some (q47, e_D (dA 2) 20 (fun _ => FP.dconst0)))) 48 (some (q48, e_D (dA 2) 20 (fun _ => FP.dconst0)))) 49 (some (q49, e_D (dA 2) 20 (fun _ => FP.dconst0)))) 50 (some (q50, e_F (dA 3) 20 (fun _ => FP.fconst0)))) 51 (some (q51, e_F (dA 3) 20 (fun _ => FP.fconst0)))) 52 (some (q52, e_F (dA 3) 20 (fun _ => FP.fconst0)))) 53 (some (q53, e_F (dA 3) 20 (fun _ => FP.fconst0)))) 54 (some (q54, e_D (dA 2) 20 (fun _ => FP.dconst0)))) 55 (some (q55, e_F (dA 3) 20 (fun _ => FP.fconst0)))) 56 (some (q56, e_D (dA 2) 20 (fun _ => FP.dconst0)))) 57 (some (q57, e_F (dA 3) 20 (fun _ => FP.fconst0)))) := ⟨_, rfl⟩
  rw [← hF, ← hGf] at G
  have hs24 : Gf = vf_upd Gf 24 (some (q24, e_I (dA 0) 20 (lmF 0))) := by
    funext k; unfold vf_upd; split
    · rename_i h; rw [h, hGf, lmF_0]; rfl
    · rfl
  rw [hs24] at G
  refine lp1 F Gf q24 (by rw [hF]; rfl) 21 0 (by omega) (by omega) _ _ ls G hl (fun H locs ls G hl => ?_)
  refine lv_iconst (v := nI 0) hx hb dX1_init_413 (by decide) ?_
  refine lv_istore_n (lv' := [(1, .int (nI 0)), (0, .ref a)]) hx hb dX1_init_414 rfl hl (by decide) rfl (fun ls hl => ?_)
  have hs3 : vf_upd Gf 24 (some (q24, e_I (dA 0) 20 (lmF 20))) = vf_upd (vf_upd Gf 24 (some (q24, e_I (dA 0) 20 (lmF 20)))) 3 (some (q3, e_I (dA 0) 120 (lmF 0))) := by
    funext k; unfold vf_upd; split
    · split
      · rename_i h1 h2; rw [h1] at h2; exact absurd h2 (by decide)
      · rfl
    · split
      · rename_i h; rw [h, hGf, lmF_0]; rfl
      · rfl
  rw [hs3] at G
  refine lp2 F (vf_upd Gf 24 (some (q24, e_I (dA 0) 20 (lmF 20)))) q3 (by rw [hF]; rfl) 121 0 (by omega) (by omega) _ _ ls G hl (fun H locs ls G hl => ?_)
  have G : wG D dA (xB (gA (ow0 a)) s0.heap.size) (ow a F (vf_upd (vf_upd Gf 24 (some (q24, e_I (dA 0) 20 (fun _ => -1)))) 3 (some (q3, e_I (dA 0) 120 (lmF 120))))) s0 H locs := wG_I (r := 25) (g := fun _ => -1) rfl rfl (fun r' h => by cases r' with | zero => rfl | succ k => (show vf_upd _ _ _ k = vf_upd _ _ _ k; unfold vf_upd; split; rfl; split; (rename_i h2; exact absurd (by omega) h); rfl)) (fun j hj => by unfold lmF; rw [if_pos (by omega)]) G
  have G : wG D dA (xB (gA (ow0 a)) s0.heap.size) (ow a F (vf_upd (vf_upd Gf 24 (some (q24, e_I (dA 0) 20 (fun _ => -1)))) 3 (some (q3, e_I (dA 0) 120 (fun _ => -1))))) s0 H locs := wG_I (r := 4) (g := fun _ => -1) rfl rfl (fun r' h => by cases r' with | zero => rfl | succ k => (show vf_upd _ _ _ k = vf_upd _ _ _ k; unfold vf_upd; split; (rename_i h2; exact absurd (by omega) h); rfl)) (fun j hj => by unfold lmF; rw [if_pos (by omega)]) G
  refine ww_vretN S hr hlk G (Nat.le_refl _) (Nat.le_refl _) ⟨rfl, (fun r => match r with | 0 => a | 2 => q1 | 3 => q2 | 4 => q3 | 5 => q4 | 6 => q5 | 7 => q6 | 8 => q7 | 9 => q8 | 10 => q9 | 11 => q10 | 18 => q17 | 19 => q18 | 20 => q19 | 21 => q20 | 22 => q21 | 23 => q22 | 24 => q23 | 25 => q24 | 26 => q25 | 27 => q26 | 28 => q27 | 29 => q28 | 30 => q29 | 31 => q30 | 32 => q31 | 33 => q32 | 34 => q33 | 35 => q34 | 36 => q35 | 37 => q36 | 39 => q38 | 40 => q39 | 41 => q40 | 43 => q42 | 44 => q43 | 47 => q46 | 48 => q47 | 49 => q48 | 50 => q49 | 51 => q50 | 52 => q51 | 53 => q52 | 54 => q53 | 55 => q54 | 56 => q55 | 57 => q56 | 58 => q57 | _ => 0), rfl, ?_⟩ dX1_init_434
  subst hF; subst hGf
  refine ow_ext rfl (fun k hk => ?_) (fun k hk => ?_) (fun k hk => ?_)
  · rcases (show k = 0 ∨ k = 1 ∨ k = 2 ∨ k = 3 ∨ k = 4 ∨ k = 5 ∨ k = 6 ∨ k = 7 ∨ k = 8 ∨ k = 9 ∨ k = 10 ∨ k = 11 ∨ k = 12 ∨ k = 13 ∨ k = 14 ∨ k = 15 ∨ k = 16 ∨ k = 17 ∨ k = 18 ∨ k = 19 ∨ k = 20 ∨ k = 21 ∨ k = 22 ∨ k = 23 ∨ k = 24 ∨ k = 25 ∨ k = 26 ∨ k = 27 ∨ k = 28 ∨ k = 29 ∨ k = 30 ∨ k = 31 ∨ k = 32 ∨ k = 33 ∨ k = 34 ∨ k = 35 ∨ k = 36 ∨ k = 37 ∨ k = 38 ∨ k = 39 ∨ k = 40 ∨ k = 41 ∨ k = 42 ∨ k = 43 ∨ k = 44 ∨ k = 45 ∨ k = 46 ∨ k = 47 ∨ k = 48 ∨ k = 49 ∨ k = 50 ∨ k = 51 ∨ k = 52 ∨ k = 53 ∨ k = 54 ∨ k = 55 ∨ k = 56 ∨ k = 57 ∨ k = 58 ∨ k = 59 ∨ k = 60 by omega) with rfl | rfl | rfl | rfl | rfl | rfl | rfl | rfl | rfl | rfl | rfl | rfl | rfl | rfl | rfl | rfl | rfl | rfl | rfl | rfl | rfl | rfl | rfl | rfl | rfl | rfl | rfl | rfl | rfl | rfl | rfl | rfl | rfl | rfl | rfl | rfl | rfl | rfl | rfl | rfl | rfl | rfl | rfl | rfl | rfl | rfl | rfl | rfl | rfl | rfl | rfl | rfl | rfl | rfl | rfl | rfl | rfl | rfl | rfl | rfl | rfl <;> rfl
  · rcases (show k = 0 ∨ k = 1 ∨ k = 2 ∨ k = 3 ∨ k = 4 ∨ k = 5 ∨ k = 6 ∨ k = 7 ∨ k = 8 ∨ k = 9 ∨ k = 10 ∨ k = 11 ∨ k = 12 ∨ k = 13 ∨ k = 14 ∨ k = 15 ∨ k = 16 ∨ k = 17 ∨ k = 18 ∨ k = 19 ∨ k = 20 ∨ k = 21 ∨ k = 22 ∨ k = 23 ∨ k = 24 ∨ k = 25 ∨ k = 26 ∨ k = 27 ∨ k = 28 ∨ k = 29 ∨ k = 30 ∨ k = 31 ∨ k = 32 ∨ k = 33 ∨ k = 34 ∨ k = 35 ∨ k = 36 ∨ k = 37 ∨ k = 38 ∨ k = 39 ∨ k = 40 ∨ k = 41 ∨ k = 42 ∨ k = 43 ∨ k = 44 ∨ k = 45 ∨ k = 46 ∨ k = 47 ∨ k = 48 ∨ k = 49 ∨ k = 50 ∨ k = 51 ∨ k = 52 ∨ k = 53 ∨ k = 54 ∨ k = 55 ∨ k = 56 ∨ k = 57 ∨ k = 58 ∨ k = 59 ∨ k = 60 by omega) with rfl | rfl | rfl | rfl | rfl | rfl | rfl | rfl | rfl | rfl | rfl | rfl | rfl | rfl | rfl | rfl | rfl | rfl | rfl | rfl | rfl | rfl | rfl | rfl | rfl | rfl | rfl | rfl | rfl | rfl | rfl | rfl | rfl | rfl | rfl | rfl | rfl | rfl | rfl | rfl | rfl | rfl | rfl | rfl | rfl | rfl | rfl | rfl | rfl | rfl | rfl | rfl | rfl | rfl | rfl | rfl | rfl | rfl | rfl | rfl | rfl <;> rfl
  · obtain ⟨i, rfl⟩ := Nat.exists_eq_add_of_le hk
    unfold vf_upd; repeat rw [if_neg (by omega)]
