set_option maxRecDepth 100000
theorem dX15_init_0 : decode cX15_init 0 = .ok (.aload_n 0, 1) := by decide +kernel
theorem dX15_init_1 : decode cX15_init 1 = .ok (.invokespecial 1, 3) := by decide +kernel
theorem dX15_init_4 : decode cX15_init 4 = .ok (.aload_n 0, 1) := by decide +kernel
theorem dX15_init_5 : decode cX15_init 5 = .ok (.bipush 20, 2) := by decide +kernel
theorem dX15_init_7 : decode cX15_init 7 = .ok (.newarray .int, 2) := by decide +kernel
theorem dX15_init_9 : decode cX15_init 9 = .ok (.putfield 7, 3) := by decide +kernel
theorem dX15_init_12 : decode cX15_init 12 = .ok (.aload_n 0, 1) := by decide +kernel
theorem dX15_init_13 : decode cX15_init 13 = .ok (.sipush 4000, 3) := by decide +kernel
theorem dX15_init_16 : decode cX15_init 16 = .ok (.newarray .int, 2) := by decide +kernel
theorem dX15_init_18 : decode cX15_init 18 = .ok (.putfield 13, 3) := by decide +kernel
theorem dX15_init_21 : decode cX15_init 21 = .ok (.aload_n 0, 1) := by decide +kernel
theorem dX15_init_22 : decode cX15_init 22 = .ok (.sipush 2000, 3) := by decide +kernel
theorem dX15_init_25 : decode cX15_init 25 = .ok (.newarray .int, 2) := by decide +kernel
theorem dX15_init_27 : decode cX15_init 27 = .ok (.putfield 16, 3) := by decide +kernel
theorem dX15_init_30 : decode cX15_init 30 = .ok (.aload_n 0, 1) := by decide +kernel
theorem dX15_init_31 : decode cX15_init 31 = .ok (.sipush 2000, 3) := by decide +kernel
theorem dX15_init_34 : decode cX15_init 34 = .ok (.newarray .int, 2) := by decide +kernel
theorem dX15_init_36 : decode cX15_init 36 = .ok (.putfield 19, 3) := by decide +kernel
theorem dX15_init_39 : decode cX15_init 39 = .ok (.aload_n 0, 1) := by decide +kernel
theorem dX15_init_40 : decode cX15_init 40 = .ok (.sipush 12000, 3) := by decide +kernel
theorem dX15_init_43 : decode cX15_init 43 = .ok (.newarray .int, 2) := by decide +kernel
theorem dX15_init_45 : decode cX15_init 45 = .ok (.putfield 22, 3) := by decide +kernel
theorem dX15_init_48 : decode cX15_init 48 = .ok (.aload_n 0, 1) := by decide +kernel
theorem dX15_init_49 : decode cX15_init 49 = .ok (.sipush 12000, 3) := by decide +kernel
theorem dX15_init_52 : decode cX15_init 52 = .ok (.newarray .int, 2) := by decide +kernel
theorem dX15_init_54 : decode cX15_init 54 = .ok (.putfield 25, 3) := by decide +kernel
theorem dX15_init_57 : decode cX15_init 57 = .ok (.aload_n 0, 1) := by decide +kernel
theorem dX15_init_58 : decode cX15_init 58 = .ok (.sipush 12000, 3) := by decide +kernel
theorem dX15_init_61 : decode cX15_init 61 = .ok (.newarray .int, 2) := by decide +kernel
theorem dX15_init_63 : decode cX15_init 63 = .ok (.putfield 28, 3) := by decide +kernel
theorem dX15_init_66 : decode cX15_init 66 = .ok (.aload_n 0, 1) := by decide +kernel
theorem dX15_init_67 : decode cX15_init 67 = .ok (.sipush 12000, 3) := by decide +kernel
theorem dX15_init_70 : decode cX15_init 70 = .ok (.newarray .int, 2) := by decide +kernel
theorem dX15_init_72 : decode cX15_init 72 = .ok (.putfield 31, 3) := by decide +kernel
theorem dX15_init_75 : decode cX15_init 75 = .ok (.aload_n 0, 1) := by decide +kernel
theorem dX15_init_76 : decode cX15_init 76 = .ok (.sipush 12000, 3) := by decide +kernel
theorem dX15_init_79 : decode cX15_init 79 = .ok (.newarray .long, 2) := by decide +kernel
theorem dX15_init_81 : decode cX15_init 81 = .ok (.putfield 34, 3) := by decide +kernel
theorem dX15_init_84 : decode cX15_init 84 = .ok (.aload_n 0, 1) := by decide +kernel
theorem dX15_init_85 : decode cX15_init 85 = .ok (.sipush 4100, 3) := by decide +kernel
theorem dX15_init_88 : decode cX15_init 88 = .ok (.newarray .int, 2) := by decide +kernel
theorem dX15_init_90 : decode cX15_init 90 = .ok (.putfield 38, 3) := by decide +kernel
theorem dX15_init_93 : decode cX15_init 93 = .ok (.aload_n 0, 1) := by decide +kernel
theorem dX15_init_94 : decode cX15_init 94 = .ok (.sipush 4100, 3) := by decide +kernel
theorem dX15_init_97 : decode cX15_init 97 = .ok (.newarray .int, 2) := by decide +kernel
theorem dX15_init_99 : decode cX15_init 99 = .ok (.putfield 41, 3) := by decide +kernel
theorem dX15_init_102 : decode cX15_init 102 = .ok (.aload_n 0, 1) := by decide +kernel
theorem dX15_init_103 : decode cX15_init 103 = .ok (.sipush 4100, 3) := by decide +kernel
theorem dX15_init_106 : decode cX15_init 106 = .ok (.newarray .int, 2) := by decide +kernel
theorem dX15_init_108 : decode cX15_init 108 = .ok (.putfield 44, 3) := by decide +kernel
theorem dX15_init_111 : decode cX15_init 111 = .ok (.aload_n 0, 1) := by decide +kernel
theorem dX15_init_112 : decode cX15_init 112 = .ok (.sipush 4100, 3) := by decide +kernel
theorem dX15_init_115 : decode cX15_init 115 = .ok (.newarray .int, 2) := by decide +kernel
theorem dX15_init_117 : decode cX15_init 117 = .ok (.putfield 47, 3) := by decide +kernel
theorem dX15_init_120 : decode cX15_init 120 = .ok (.aload_n 0, 1) := by decide +kernel
theorem dX15_init_121 : decode cX15_init 121 = .ok (.bipush 70, 2) := by decide +kernel
theorem dX15_init_123 : decode cX15_init 123 = .ok (.newarray .int, 2) := by decide +kernel
theorem dX15_init_125 : decode cX15_init 125 = .ok (.putfield 50, 3) := by decide +kernel
theorem dX15_init_128 : decode cX15_init 128 = .ok (.aload_n 0, 1) := by decide +kernel
theorem dX15_init_129 : decode cX15_init 129 = .ok (.bipush 70, 2) := by decide +kernel
theorem dX15_init_131 : decode cX15_init 131 = .ok (.newarray .int, 2) := by decide +kernel
theorem dX15_init_133 : decode cX15_init 133 = .ok (.putfield 53, 3) := by decide +kernel
theorem dX15_init_136 : decode cX15_init 136 = .ok (.aload_n 0, 1) := by decide +kernel
theorem dX15_init_137 : decode cX15_init 137 = .ok (.sipush 12000, 3) := by decide +kernel
theorem dX15_init_140 : decode cX15_init 140 = .ok (.newarray .int, 2) := by decide +kernel
theorem dX15_init_142 : decode cX15_init 142 = .ok (.putfield 56, 3) := by decide +kernel
theorem dX15_init_145 : decode cX15_init 145 = .ok (.aload_n 0, 1) := by decide +kernel
theorem dX15_init_146 : decode cX15_init 146 = .ok (.sipush 2500, 3) := by decide +kernel
theorem dX15_init_149 : decode cX15_init 149 = .ok (.newarray .int, 2) := by decide +kernel
theorem dX15_init_151 : decode cX15_init 151 = .ok (.putfield 59, 3) := by decide +kernel
theorem dX15_init_154 : decode cX15_init 154 = .ok (.aload_n 0, 1) := by decide +kernel
theorem dX15_init_155 : decode cX15_init 155 = .ok (.sipush 2500, 3) := by decide +kernel
theorem dX15_init_158 : decode cX15_init 158 = .ok (.newarray .int, 2) := by decide +kernel
theorem dX15_init_160 : decode cX15_init 160 = .ok (.putfield 62, 3) := by decide +kernel
theorem dX15_init_163 : decode cX15_init 163 = .ok (.aload_n 0, 1) := by decide +kernel
theorem dX15_init_164 : decode cX15_init 164 = .ok (.sipush 2500, 3) := by decide +kernel
theorem dX15_init_167 : decode cX15_init 167 = .ok (.newarray .int, 2) := by decide +kernel
theorem dX15_init_169 : decode cX15_init 169 = .ok (.putfield 65, 3) := by decide +kernel
theorem dX15_init_172 : decode cX15_init 172 = .ok (.aload_n 0, 1) := by decide +kernel
theorem dX15_init_173 : decode cX15_init 173 = .ok (.sipush 2500, 3) := by decide +kernel
theorem dX15_init_176 : decode cX15_init 176 = .ok (.newarray .int, 2) := by decide +kernel
theorem dX15_init_178 : decode cX15_init 178 = .ok (.putfield 68, 3) := by decide +kernel
theorem dX15_init_181 : decode cX15_init 181 = .ok (.aload_n 0, 1) := by decide +kernel
theorem dX15_init_182 : decode cX15_init 182 = .ok (.sipush 2500, 3) := by decide +kernel
theorem dX15_init_185 : decode cX15_init 185 = .ok (.newarray .int, 2) := by decide +kernel
theorem dX15_init_187 : decode cX15_init 187 = .ok (.putfield 71, 3) := by decide +kernel
theorem dX15_init_190 : decode cX15_init 190 = .ok (.aload_n 0, 1) := by decide +kernel
theorem dX15_init_191 : decode cX15_init 191 = .ok (.sipush 2500, 3) := by decide +kernel
theorem dX15_init_194 : decode cX15_init 194 = .ok (.newarray .boolean, 2) := by decide +kernel
theorem dX15_init_196 : decode cX15_init 196 = .ok (.putfield 74, 3) := by decide +kernel
theorem dX15_init_199 : decode cX15_init 199 = .ok (.aload_n 0, 1) := by decide +kernel
theorem dX15_init_200 : decode cX15_init 200 = .ok (.sipush 2500, 3) := by decide +kernel
theorem dX15_init_203 : decode cX15_init 203 = .ok (.newarray .int, 2) := by decide +kernel
theorem dX15_init_205 : decode cX15_init 205 = .ok (.putfield 78, 3) := by decide +kernel
theorem dX15_init_208 : decode cX15_init 208 = .ok (.aload_n 0, 1) := by decide +kernel
theorem dX15_init_209 : decode cX15_init 209 = .ok (.sipush 2500, 3) := by decide +kernel
theorem dX15_init_212 : decode cX15_init 212 = .ok (.newarray .int, 2) := by decide +kernel
theorem dX15_init_214 : decode cX15_init 214 = .ok (.putfield 81, 3) := by decide +kernel
theorem dX15_init_217 : decode cX15_init 217 = .ok (.aload_n 0, 1) := by decide +kernel
theorem dX15_init_218 : decode cX15_init 218 = .ok (.sipush 4200, 3) := by decide +kernel
theorem dX15_init_221 : decode cX15_init 221 = .ok (.newarray .int, 2) := by decide +kernel
theorem dX15_init_223 : decode cX15_init 223 = .ok (.putfield 84, 3) := by decide +kernel
theorem dX15_init_226 : decode cX15_init 226 = .ok (.aload_n 0, 1) := by decide +kernel
theorem dX15_init_227 : decode cX15_init 227 = .ok (.sipush 4200, 3) := by decide +kernel
theorem dX15_init_230 : decode cX15_init 230 = .ok (.newarray .int, 2) := by decide +kernel
theorem dX15_init_232 : decode cX15_init 232 = .ok (.putfield 87, 3) := by decide +kernel
theorem dX15_init_235 : decode cX15_init 235 = .ok (.aload_n 0, 1) := by decide +kernel
theorem dX15_init_236 : decode cX15_init 236 = .ok (.sipush 4200, 3) := by decide +kernel
theorem dX15_init_239 : decode cX15_init 239 = .ok (.newarray .boolean, 2) := by decide +kernel
theorem dX15_init_241 : decode cX15_init 241 = .ok (.putfield 90, 3) := by decide +kernel
theorem dX15_init_244 : decode cX15_init 244 = .ok (.aload_n 0, 1) := by decide +kernel
theorem dX15_init_245 : decode cX15_init 245 = .ok (.bipush 70, 2) := by decide +kernel
theorem dX15_init_247 : decode cX15_init 247 = .ok (.newarray .int, 2) := by decide +kernel
theorem dX15_init_249 : decode cX15_init 249 = .ok (.putfield 93, 3) := by decide +kernel
theorem dX15_init_252 : decode cX15_init 252 = .ok (.aload_n 0, 1) := by decide +kernel
theorem dX15_init_253 : decode cX15_init 253 = .ok (.sipush 12000, 3) := by decide +kernel
theorem dX15_init_256 : decode cX15_init 256 = .ok (.newarray .int, 2) := by decide +kernel
theorem dX15_init_258 : decode cX15_init 258 = .ok (.putfield 96, 3) := by decide +kernel
theorem dX15_init_261 : decode cX15_init 261 = .ok (.aload_n 0, 1) := by decide +kernel
theorem dX15_init_262 : decode cX15_init 262 = .ok (.sipush 12000, 3) := by decide +kernel
theorem dX15_init_265 : decode cX15_init 265 = .ok (.newarray .int, 2) := by decide +kernel
theorem dX15_init_267 : decode cX15_init 267 = .ok (.putfield 99, 3) := by decide +kernel
theorem dX15_init_270 : decode cX15_init 270 = .ok (.aload_n 0, 1) := by decide +kernel
theorem dX15_init_271 : decode cX15_init 271 = .ok (.sipush 12000, 3) := by decide +kernel
theorem dX15_init_274 : decode cX15_init 274 = .ok (.newarray .int, 2) := by decide +kernel
theorem dX15_init_276 : decode cX15_init 276 = .ok (.putfield 102, 3) := by decide +kernel
theorem dX15_init_279 : decode cX15_init 279 = .ok (.aload_n 0, 1) := by decide +kernel
theorem dX15_init_280 : decode cX15_init 280 = .ok (.sipush 12000, 3) := by decide +kernel
theorem dX15_init_283 : decode cX15_init 283 = .ok (.newarray .int, 2) := by decide +kernel
theorem dX15_init_285 : decode cX15_init 285 = .ok (.putfield 105, 3) := by decide +kernel
theorem dX15_init_288 : decode cX15_init 288 = .ok (.aload_n 0, 1) := by decide +kernel
theorem dX15_init_289 : decode cX15_init 289 = .ok (.sipush 12000, 3) := by decide +kernel
theorem dX15_init_292 : decode cX15_init 292 = .ok (.newarray .int, 2) := by decide +kernel
theorem dX15_init_294 : decode cX15_init 294 = .ok (.putfield 108, 3) := by decide +kernel
theorem dX15_init_297 : decode cX15_init 297 = .ok (.aload_n 0, 1) := by decide +kernel
theorem dX15_init_298 : decode cX15_init 298 = .ok (.sipush 12000, 3) := by decide +kernel
theorem dX15_init_301 : decode cX15_init 301 = .ok (.newarray .boolean, 2) := by decide +kernel
theorem dX15_init_303 : decode cX15_init 303 = .ok (.putfield 111, 3) := by decide +kernel
theorem dX15_init_306 : decode cX15_init 306 = .ok (.aload_n 0, 1) := by decide +kernel
theorem dX15_init_307 : decode cX15_init 307 = .ok (.sipush 400, 3) := by decide +kernel
theorem dX15_init_310 : decode cX15_init 310 = .ok (.newarray .int, 2) := by decide +kernel
theorem dX15_init_312 : decode cX15_init 312 = .ok (.putfield 114, 3) := by decide +kernel
theorem dX15_init_315 : decode cX15_init 315 = .ok (.aload_n 0, 1) := by decide +kernel
theorem dX15_init_316 : decode cX15_init 316 = .ok (.sipush 400, 3) := by decide +kernel
theorem dX15_init_319 : decode cX15_init 319 = .ok (.newarray .int, 2) := by decide +kernel
theorem dX15_init_321 : decode cX15_init 321 = .ok (.putfield 117, 3) := by decide +kernel
theorem dX15_init_324 : decode cX15_init 324 = .ok (.aload_n 0, 1) := by decide +kernel
theorem dX15_init_325 : decode cX15_init 325 = .ok (.sipush 1000, 3) := by decide +kernel
theorem dX15_init_328 : decode cX15_init 328 = .ok (.newarray .int, 2) := by decide +kernel
theorem dX15_init_330 : decode cX15_init 330 = .ok (.putfield 120, 3) := by decide +kernel
theorem dX15_init_333 : decode cX15_init 333 = .ok (.aload_n 0, 1) := by decide +kernel
theorem dX15_init_334 : decode cX15_init 334 = .ok (.ldc 123, 2) := by decide +kernel
theorem dX15_init_336 : decode cX15_init 336 = .ok (.newarray .int, 2) := by decide +kernel
theorem dX15_init_338 : decode cX15_init 338 = .ok (.putfield 124, 3) := by decide +kernel
theorem dX15_init_341 : decode cX15_init 341 = .ok (.aload_n 0, 1) := by decide +kernel
theorem dX15_init_342 : decode cX15_init 342 = .ok (.ldc 123, 2) := by decide +kernel
theorem dX15_init_344 : decode cX15_init 344 = .ok (.newarray .int, 2) := by decide +kernel
theorem dX15_init_346 : decode cX15_init 346 = .ok (.putfield 127, 3) := by decide +kernel
theorem dX15_init_349 : decode cX15_init 349 = .ok (.aload_n 0, 1) := by decide +kernel
theorem dX15_init_350 : decode cX15_init 350 = .ok (.ldc 123, 2) := by decide +kernel
theorem dX15_init_352 : decode cX15_init 352 = .ok (.newarray .int, 2) := by decide +kernel
theorem dX15_init_354 : decode cX15_init 354 = .ok (.putfield 130, 3) := by decide +kernel
theorem dX15_init_357 : decode cX15_init 357 = .ok (.aload_n 0, 1) := by decide +kernel
theorem dX15_init_358 : decode cX15_init 358 = .ok (.ldc 123, 2) := by decide +kernel
theorem dX15_init_360 : decode cX15_init 360 = .ok (.newarray .int, 2) := by decide +kernel
theorem dX15_init_362 : decode cX15_init 362 = .ok (.putfield 133, 3) := by decide +kernel
theorem dX15_init_365 : decode cX15_init 365 = .ok (.aload_n 0, 1) := by decide +kernel
theorem dX15_init_366 : decode cX15_init 366 = .ok (.sipush 256, 3) := by decide +kernel
theorem dX15_init_369 : decode cX15_init 369 = .ok (.newarray .int, 2) := by decide +kernel
theorem dX15_init_371 : decode cX15_init 371 = .ok (.putfield 136, 3) := by decide +kernel
theorem dX15_init_374 : decode cX15_init 374 = .ok (.aload_n 0, 1) := by decide +kernel
theorem dX15_init_375 : decode cX15_init 375 = .ok (.sipush 256, 3) := by decide +kernel
theorem dX15_init_378 : decode cX15_init 378 = .ok (.newarray .int, 2) := by decide +kernel
theorem dX15_init_380 : decode cX15_init 380 = .ok (.putfield 139, 3) := by decide +kernel
theorem dX15_init_383 : decode cX15_init 383 = .ok (.aload_n 0, 1) := by decide +kernel
theorem dX15_init_384 : decode cX15_init 384 = .ok (.sipush 256, 3) := by decide +kernel
theorem dX15_init_387 : decode cX15_init 387 = .ok (.newarray .int, 2) := by decide +kernel
theorem dX15_init_389 : decode cX15_init 389 = .ok (.putfield 142, 3) := by decide +kernel
theorem dX15_init_392 : decode cX15_init 392 = .ok (.aload_n 0, 1) := by decide +kernel
theorem dX15_init_393 : decode cX15_init 393 = .ok (.sipush 256, 3) := by decide +kernel
theorem dX15_init_396 : decode cX15_init 396 = .ok (.newarray .long, 2) := by decide +kernel
theorem dX15_init_398 : decode cX15_init 398 = .ok (.putfield 145, 3) := by decide +kernel
theorem dX15_init_401 : decode cX15_init 401 = .ok (.aload_n 0, 1) := by decide +kernel
theorem dX15_init_402 : decode cX15_init 402 = .ok (.sipush 256, 3) := by decide +kernel
theorem dX15_init_405 : decode cX15_init 405 = .ok (.newarray .long, 2) := by decide +kernel
theorem dX15_init_407 : decode cX15_init 407 = .ok (.putfield 148, 3) := by decide +kernel
theorem dX15_init_410 : decode cX15_init 410 = .ok (.aload_n 0, 1) := by decide +kernel
theorem dX15_init_411 : decode cX15_init 411 = .ok (.sipush 500, 3) := by decide +kernel
theorem dX15_init_414 : decode cX15_init 414 = .ok (.newarray .int, 2) := by decide +kernel
theorem dX15_init_416 : decode cX15_init 416 = .ok (.putfield 151, 3) := by decide +kernel
theorem dX15_init_419 : decode cX15_init 419 = .ok (.aload_n 0, 1) := by decide +kernel
theorem dX15_init_420 : decode cX15_init 420 = .ok (.sipush 16000, 3) := by decide +kernel
theorem dX15_init_423 : decode cX15_init 423 = .ok (.newarray .int, 2) := by decide +kernel
theorem dX15_init_425 : decode cX15_init 425 = .ok (.putfield 154, 3) := by decide +kernel
theorem dX15_init_428 : decode cX15_init 428 = .ok (.aload_n 0, 1) := by decide +kernel
theorem dX15_init_429 : decode cX15_init 429 = .ok (.ldc 157, 2) := by decide +kernel
theorem dX15_init_431 : decode cX15_init 431 = .ok (.newarray .int, 2) := by decide +kernel
theorem dX15_init_433 : decode cX15_init 433 = .ok (.putfield 158, 3) := by decide +kernel
theorem dX15_init_436 : decode cX15_init 436 = .ok (.aload_n 0, 1) := by decide +kernel
theorem dX15_init_437 : decode cX15_init 437 = .ok (.bipush 40, 2) := by decide +kernel
theorem dX15_init_439 : decode cX15_init 439 = .ok (.newarray .int, 2) := by decide +kernel
theorem dX15_init_441 : decode cX15_init 441 = .ok (.putfield 161, 3) := by decide +kernel
theorem dX15_init_444 : decode cX15_init 444 = .ok (.aload_n 0, 1) := by decide +kernel
theorem dX15_init_445 : decode cX15_init 445 = .ok (.bipush 40, 2) := by decide +kernel
theorem dX15_init_447 : decode cX15_init 447 = .ok (.newarray .int, 2) := by decide +kernel
theorem dX15_init_449 : decode cX15_init 449 = .ok (.putfield 164, 3) := by decide +kernel
theorem dX15_init_452 : decode cX15_init 452 = .ok (.aload_n 0, 1) := by decide +kernel
theorem dX15_init_453 : decode cX15_init 453 = .ok (.bipush 40, 2) := by decide +kernel
theorem dX15_init_455 : decode cX15_init 455 = .ok (.newarray .int, 2) := by decide +kernel
theorem dX15_init_457 : decode cX15_init 457 = .ok (.putfield 167, 3) := by decide +kernel
theorem dX15_init_460 : decode cX15_init 460 = .ok (.aload_n 0, 1) := by decide +kernel
theorem dX15_init_461 : decode cX15_init 461 = .ok (.bipush 40, 2) := by decide +kernel
theorem dX15_init_463 : decode cX15_init 463 = .ok (.newarray .int, 2) := by decide +kernel
theorem dX15_init_465 : decode cX15_init 465 = .ok (.putfield 170, 3) := by decide +kernel
theorem dX15_init_468 : decode cX15_init 468 = .ok (.aload_n 0, 1) := by decide +kernel
theorem dX15_init_469 : decode cX15_init 469 = .ok (.bipush 40, 2) := by decide +kernel
theorem dX15_init_471 : decode cX15_init 471 = .ok (.newarray .int, 2) := by decide +kernel
theorem dX15_init_473 : decode cX15_init 473 = .ok (.putfield 173, 3) := by decide +kernel
theorem dX15_init_476 : decode cX15_init 476 = .ok (.aload_n 0, 1) := by decide +kernel
theorem dX15_init_477 : decode cX15_init 477 = .ok (.bipush 40, 2) := by decide +kernel
theorem dX15_init_479 : decode cX15_init 479 = .ok (.newarray .int, 2) := by decide +kernel
theorem dX15_init_481 : decode cX15_init 481 = .ok (.putfield 176, 3) := by decide +kernel
theorem dX15_init_484 : decode cX15_init 484 = .ok (.aload_n 0, 1) := by decide +kernel
theorem dX15_init_485 : decode cX15_init 485 = .ok (.bipush 40, 2) := by decide +kernel
theorem dX15_init_487 : decode cX15_init 487 = .ok (.newarray .int, 2) := by decide +kernel
theorem dX15_init_489 : decode cX15_init 489 = .ok (.putfield 179, 3) := by decide +kernel
theorem dX15_init_492 : decode cX15_init 492 = .ok (.aload_n 0, 1) := by decide +kernel
theorem dX15_init_493 : decode cX15_init 493 = .ok (.bipush 40, 2) := by decide +kernel
theorem dX15_init_495 : decode cX15_init 495 = .ok (.newarray .int, 2) := by decide +kernel
theorem dX15_init_497 : decode cX15_init 497 = .ok (.putfield 182, 3) := by decide +kernel
theorem dX15_init_500 : decode cX15_init 500 = .ok (.aload_n 0, 1) := by decide +kernel
theorem dX15_init_501 : decode cX15_init 501 = .ok (.bipush 80, 2) := by decide +kernel
theorem dX15_init_503 : decode cX15_init 503 = .ok (.newarray .int, 2) := by decide +kernel
theorem dX15_init_505 : decode cX15_init 505 = .ok (.putfield 185, 3) := by decide +kernel
theorem dX15_init_508 : decode cX15_init 508 = .ok (.aload_n 0, 1) := by decide +kernel
theorem dX15_init_509 : decode cX15_init 509 = .ok (.sipush 8192, 3) := by decide +kernel
theorem dX15_init_512 : decode cX15_init 512 = .ok (.newarray .int, 2) := by decide +kernel
theorem dX15_init_514 : decode cX15_init 514 = .ok (.putfield 188, 3) := by decide +kernel
theorem dX15_init_517 : decode cX15_init 517 = .ok (.aload_n 0, 1) := by decide +kernel
theorem dX15_init_518 : decode cX15_init 518 = .ok (.sipush 300, 3) := by decide +kernel
theorem dX15_init_521 : decode cX15_init 521 = .ok (.newarray .int, 2) := by decide +kernel
theorem dX15_init_523 : decode cX15_init 523 = .ok (.putfield 191, 3) := by decide +kernel
theorem dX15_init_526 : decode cX15_init 526 = .ok (.aload_n 0, 1) := by decide +kernel
theorem dX15_init_527 : decode cX15_init 527 = .ok (.sipush 300, 3) := by decide +kernel
theorem dX15_init_530 : decode cX15_init 530 = .ok (.newarray .int, 2) := by decide +kernel
theorem dX15_init_532 : decode cX15_init 532 = .ok (.putfield 194, 3) := by decide +kernel
theorem dX15_init_535 : decode cX15_init 535 = .ok (.aload_n 0, 1) := by decide +kernel
theorem dX15_init_536 : decode cX15_init 536 = .ok (.sipush 300, 3) := by decide +kernel
theorem dX15_init_539 : decode cX15_init 539 = .ok (.newarray .int, 2) := by decide +kernel
theorem dX15_init_541 : decode cX15_init 541 = .ok (.putfield 197, 3) := by decide +kernel
theorem dX15_init_544 : decode cX15_init 544 = .ok (.aload_n 0, 1) := by decide +kernel
theorem dX15_init_545 : decode cX15_init 545 = .ok (.bipush 40, 2) := by decide +kernel
theorem dX15_init_547 : decode cX15_init 547 = .ok (.newarray .int, 2) := by decide +kernel
theorem dX15_init_549 : decode cX15_init 549 = .ok (.putfield 200, 3) := by decide +kernel
theorem dX15_init_552 : decode cX15_init 552 = .ok (.aload_n 0, 1) := by decide +kernel
theorem dX15_init_553 : decode cX15_init 553 = .ok (.bipush 40, 2) := by decide +kernel
theorem dX15_init_555 : decode cX15_init 555 = .ok (.newarray .int, 2) := by decide +kernel
theorem dX15_init_557 : decode cX15_init 557 = .ok (.putfield 203, 3) := by decide +kernel
theorem dX15_init_560 : decode cX15_init 560 = .ok (.aload_n 0, 1) := by decide +kernel
theorem dX15_init_561 : decode cX15_init 561 = .ok (.bipush 40, 2) := by decide +kernel
theorem dX15_init_563 : decode cX15_init 563 = .ok (.newarray .boolean, 2) := by decide +kernel
theorem dX15_init_565 : decode cX15_init 565 = .ok (.putfield 206, 3) := by decide +kernel
theorem dX15_init_568 : decode cX15_init 568 = .ok (.aload_n 0, 1) := by decide +kernel
theorem dX15_init_569 : decode cX15_init 569 = .ok (.ldc 209, 2) := by decide +kernel
theorem dX15_init_571 : decode cX15_init 571 = .ok (.newarray .int, 2) := by decide +kernel
theorem dX15_init_573 : decode cX15_init 573 = .ok (.putfield 210, 3) := by decide +kernel
theorem dX15_init_576 : decode cX15_init 576 = .ok (.aload_n 0, 1) := by decide +kernel
theorem dX15_init_577 : decode cX15_init 577 = .ok (.ldc 209, 2) := by decide +kernel
theorem dX15_init_579 : decode cX15_init 579 = .ok (.newarray .int, 2) := by decide +kernel
theorem dX15_init_581 : decode cX15_init 581 = .ok (.putfield 213, 3) := by decide +kernel
theorem dX15_init_584 : decode cX15_init 584 = .ok (.aload_n 0, 1) := by decide +kernel
theorem dX15_init_585 : decode cX15_init 585 = .ok (.sipush 12000, 3) := by decide +kernel
theorem dX15_init_588 : decode cX15_init 588 = .ok (.newarray .long, 2) := by decide +kernel
theorem dX15_init_590 : decode cX15_init 590 = .ok (.putfield 216, 3) := by decide +kernel
theorem dX15_init_593 : decode cX15_init 593 = .ok (.aload_n 0, 1) := by decide +kernel
theorem dX15_init_594 : decode cX15_init 594 = .ok (.sipush 12000, 3) := by decide +kernel
theorem dX15_init_597 : decode cX15_init 597 = .ok (.newarray .long, 2) := by decide +kernel
theorem dX15_init_599 : decode cX15_init 599 = .ok (.putfield 219, 3) := by decide +kernel
theorem dX15_init_602 : decode cX15_init 602 = .ok (.aload_n 0, 1) := by decide +kernel
theorem dX15_init_603 : decode cX15_init 603 = .ok (.sipush 12000, 3) := by decide +kernel
theorem dX15_init_606 : decode cX15_init 606 = .ok (.newarray .int, 2) := by decide +kernel
theorem dX15_init_608 : decode cX15_init 608 = .ok (.putfield 222, 3) := by decide +kernel
theorem dX15_init_611 : decode cX15_init 611 = .ok (.aload_n 0, 1) := by decide +kernel
theorem dX15_init_612 : decode cX15_init 612 = .ok (.sipush 400, 3) := by decide +kernel
theorem dX15_init_615 : decode cX15_init 615 = .ok (.newarray .int, 2) := by decide +kernel
theorem dX15_init_617 : decode cX15_init 617 = .ok (.putfield 225, 3) := by decide +kernel
theorem dX15_init_620 : decode cX15_init 620 = .ok (.aload_n 0, 1) := by decide +kernel
theorem dX15_init_621 : decode cX15_init 621 = .ok (.sipush 400, 3) := by decide +kernel
theorem dX15_init_624 : decode cX15_init 624 = .ok (.newarray .int, 2) := by decide +kernel
theorem dX15_init_626 : decode cX15_init 626 = .ok (.putfield 228, 3) := by decide +kernel
theorem dX15_init_629 : decode cX15_init 629 = .ok (.aload_n 0, 1) := by decide +kernel
theorem dX15_init_630 : decode cX15_init 630 = .ok (.bipush 40, 2) := by decide +kernel
theorem dX15_init_632 : decode cX15_init 632 = .ok (.newarray .int, 2) := by decide +kernel
theorem dX15_init_634 : decode cX15_init 634 = .ok (.putfield 231, 3) := by decide +kernel
theorem dX15_init_637 : decode cX15_init 637 = .ok (.aload_n 0, 1) := by decide +kernel
theorem dX15_init_638 : decode cX15_init 638 = .ok (.sipush 4200, 3) := by decide +kernel
theorem dX15_init_641 : decode cX15_init 641 = .ok (.newarray .long, 2) := by decide +kernel
theorem dX15_init_643 : decode cX15_init 643 = .ok (.putfield 234, 3) := by decide +kernel
theorem dX15_init_646 : decode cX15_init 646 = .ok (.aload_n 0, 1) := by decide +kernel
theorem dX15_init_647 : decode cX15_init 647 = .ok (.sipush 256, 3) := by decide +kernel
theorem dX15_init_650 : decode cX15_init 650 = .ok (.newarray .long, 2) := by decide +kernel
theorem dX15_init_652 : decode cX15_init 652 = .ok (.putfield 237, 3) := by decide +kernel
theorem dX15_init_655 : decode cX15_init 655 = .ok (.aload_n 0, 1) := by decide +kernel
theorem dX15_init_656 : decode cX15_init 656 = .ok (.sipush 500, 3) := by decide +kernel
theorem dX15_init_659 : decode cX15_init 659 = .ok (.newarray .long, 2) := by decide +kernel
theorem dX15_init_661 : decode cX15_init 661 = .ok (.putfield 240, 3) := by decide +kernel
theorem dX15_init_664 : decode cX15_init 664 = .ok (.aload_n 0, 1) := by decide +kernel
theorem dX15_init_665 : decode cX15_init 665 = .ok (.sipush 2000, 3) := by decide +kernel
theorem dX15_init_668 : decode cX15_init 668 = .ok (.newarray .int, 2) := by decide +kernel
theorem dX15_init_670 : decode cX15_init 670 = .ok (.putfield 243, 3) := by decide +kernel
theorem dX15_init_673 : decode cX15_init 673 = .ok (.aload_n 0, 1) := by decide +kernel
theorem dX15_init_674 : decode cX15_init 674 = .ok (.ldc 246, 2) := by decide +kernel
theorem dX15_init_676 : decode cX15_init 676 = .ok (.newarray .int, 2) := by decide +kernel
theorem dX15_init_678 : decode cX15_init 678 = .ok (.putfield 247, 3) := by decide +kernel
theorem dX15_init_681 : decode cX15_init 681 = .ok (.aload_n 0, 1) := by decide +kernel
theorem dX15_init_682 : decode cX15_init 682 = .ok (.ldc 123, 2) := by decide +kernel
theorem dX15_init_684 : decode cX15_init 684 = .ok (.newarray .int, 2) := by decide +kernel
theorem dX15_init_686 : decode cX15_init 686 = .ok (.putfield 250, 3) := by decide +kernel
theorem dX15_init_689 : decode cX15_init 689 = .ok (.aload_n 0, 1) := by decide +kernel
theorem dX15_init_690 : decode cX15_init 690 = .ok (.ldc 123, 2) := by decide +kernel
theorem dX15_init_692 : decode cX15_init 692 = .ok (.newarray .int, 2) := by decide +kernel
theorem dX15_init_694 : decode cX15_init 694 = .ok (.putfield 253, 3) := by decide +kernel
theorem dX15_init_697 : decode cX15_init 697 = .ok (.aload_n 0, 1) := by decide +kernel
theorem dX15_init_698 : decode cX15_init 698 = .ok (.ldc 123, 2) := by decide +kernel
theorem dX15_init_700 : decode cX15_init 700 = .ok (.newarray .int, 2) := by decide +kernel
theorem dX15_init_702 : decode cX15_init 702 = .ok (.putfield 256, 3) := by decide +kernel
theorem dX15_init_705 : decode cX15_init 705 = .ok (.aload_n 0, 1) := by decide +kernel
theorem dX15_init_706 : decode cX15_init 706 = .ok (.sipush 2003, 3) := by decide +kernel
theorem dX15_init_709 : decode cX15_init 709 = .ok (.newarray .int, 2) := by decide +kernel
theorem dX15_init_711 : decode cX15_init 711 = .ok (.putfield 259, 3) := by decide +kernel
theorem dX15_init_714 : decode cX15_init 714 = .ok (.aload_n 0, 1) := by decide +kernel
theorem dX15_init_715 : decode cX15_init 715 = .ok (.ldc 123, 2) := by decide +kernel
theorem dX15_init_717 : decode cX15_init 717 = .ok (.newarray .int, 2) := by decide +kernel
theorem dX15_init_719 : decode cX15_init 719 = .ok (.putfield 262, 3) := by decide +kernel
theorem dX15_init_722 : decode cX15_init 722 = .ok (.aload_n 0, 1) := by decide +kernel
theorem dX15_init_723 : decode cX15_init 723 = .ok (.bipush 16, 2) := by decide +kernel
theorem dX15_init_725 : decode cX15_init 725 = .ok (.newarray .int, 2) := by decide +kernel
theorem dX15_init_727 : decode cX15_init 727 = .ok (.putfield 265, 3) := by decide +kernel
theorem dX15_init_730 : decode cX15_init 730 = .ok (.aload_n 0, 1) := by decide +kernel
theorem dX15_init_731 : decode cX15_init 731 = .ok (.bipush 16, 2) := by decide +kernel
theorem dX15_init_733 : decode cX15_init 733 = .ok (.newarray .int, 2) := by decide +kernel
theorem dX15_init_735 : decode cX15_init 735 = .ok (.putfield 268, 3) := by decide +kernel
theorem dX15_init_738 : decode cX15_init 738 = .ok (.aload_n 0, 1) := by decide +kernel
theorem dX15_init_739 : decode cX15_init 739 = .ok (.bipush 16, 2) := by decide +kernel
theorem dX15_init_741 : decode cX15_init 741 = .ok (.newarray .int, 2) := by decide +kernel
theorem dX15_init_743 : decode cX15_init 743 = .ok (.putfield 271, 3) := by decide +kernel
theorem dX15_init_746 : decode cX15_init 746 = .ok (.aload_n 0, 1) := by decide +kernel
theorem dX15_init_747 : decode cX15_init 747 = .ok (.bipush 16, 2) := by decide +kernel
theorem dX15_init_749 : decode cX15_init 749 = .ok (.newarray .int, 2) := by decide +kernel
theorem dX15_init_751 : decode cX15_init 751 = .ok (.putfield 274, 3) := by decide +kernel
theorem dX15_init_754 : decode cX15_init 754 = .ok (.aload_n 0, 1) := by decide +kernel
theorem dX15_init_755 : decode cX15_init 755 = .ok (.bipush 16, 2) := by decide +kernel
theorem dX15_init_757 : decode cX15_init 757 = .ok (.newarray .int, 2) := by decide +kernel
theorem dX15_init_759 : decode cX15_init 759 = .ok (.putfield 277, 3) := by decide +kernel
theorem dX15_init_762 : decode cX15_init 762 = .ok (.aload_n 0, 1) := by decide +kernel
theorem dX15_init_763 : decode cX15_init 763 = .ok (.ldc_w 280, 3) := by decide +kernel
theorem dX15_init_766 : decode cX15_init 766 = .ok (.newarray .int, 2) := by decide +kernel
theorem dX15_init_768 : decode cX15_init 768 = .ok (.putfield 281, 3) := by decide +kernel
theorem dX15_init_771 : decode cX15_init 771 = .ok (.aload_n 0, 1) := by decide +kernel
theorem dX15_init_772 : decode cX15_init 772 = .ok (.ldc_w 280, 3) := by decide +kernel
theorem dX15_init_775 : decode cX15_init 775 = .ok (.newarray .int, 2) := by decide +kernel
theorem dX15_init_777 : decode cX15_init 777 = .ok (.putfield 284, 3) := by decide +kernel
theorem dX15_init_780 : decode cX15_init 780 = .ok (.aload_n 0, 1) := by decide +kernel
theorem dX15_init_781 : decode cX15_init 781 = .ok (.sipush 1000, 3) := by decide +kernel
theorem dX15_init_784 : decode cX15_init 784 = .ok (.newarray .int, 2) := by decide +kernel
theorem dX15_init_786 : decode cX15_init 786 = .ok (.putfield 287, 3) := by decide +kernel
theorem dX15_init_789 : decode cX15_init 789 = .ok (.aload_n 0, 1) := by decide +kernel
theorem dX15_init_790 : decode cX15_init 790 = .ok (.sipush 1000, 3) := by decide +kernel
theorem dX15_init_793 : decode cX15_init 793 = .ok (.newarray .int, 2) := by decide +kernel
theorem dX15_init_795 : decode cX15_init 795 = .ok (.putfield 290, 3) := by decide +kernel
theorem dX15_init_798 : decode cX15_init 798 = .ok (.aload_n 0, 1) := by decide +kernel
theorem dX15_init_799 : decode cX15_init 799 = .ok (.sipush 1000, 3) := by decide +kernel
theorem dX15_init_802 : decode cX15_init 802 = .ok (.newarray .int, 2) := by decide +kernel
theorem dX15_init_804 : decode cX15_init 804 = .ok (.putfield 293, 3) := by decide +kernel
theorem dX15_init_807 : decode cX15_init 807 = .ok (.aload_n 0, 1) := by decide +kernel
theorem dX15_init_808 : decode cX15_init 808 = .ok (.bipush 16, 2) := by decide +kernel
theorem dX15_init_810 : decode cX15_init 810 = .ok (.newarray .int, 2) := by decide +kernel
theorem dX15_init_812 : decode cX15_init 812 = .ok (.putfield 296, 3) := by decide +kernel
theorem dX15_init_815 : decode cX15_init 815 = .ok (.aload_n 0, 1) := by decide +kernel
theorem dX15_init_816 : decode cX15_init 816 = .ok (.iload_n 1, 1) := by decide +kernel
theorem dX15_init_817 : decode cX15_init 817 = .ok (.iconst 2, 1) := by decide +kernel
theorem dX15_init_818 : decode cX15_init 818 = .ok (.if_icmp .ge 7, 3) := by decide +kernel
theorem dX15_init_821 : decode cX15_init 821 = .ok (.iconst 2, 1) := by decide +kernel
theorem dX15_init_822 : decode cX15_init 822 = .ok (.goto 15, 3) := by decide +kernel
theorem dX15_init_825 : decode cX15_init 825 = .ok (.iload_n 1, 1) := by decide +kernel
theorem dX15_init_826 : decode cX15_init 826 = .ok (.bipush 16, 2) := by decide +kernel
theorem dX15_init_828 : decode cX15_init 828 = .ok (.if_icmp .le 8, 3) := by decide +kernel
theorem dX15_init_831 : decode cX15_init 831 = .ok (.bipush 16, 2) := by decide +kernel
theorem dX15_init_833 : decode cX15_init 833 = .ok (.goto 4, 3) := by decide +kernel
theorem dX15_init_836 : decode cX15_init 836 = .ok (.iload_n 1, 1) := by decide +kernel
theorem dX15_init_837 : decode cX15_init 837 = .ok (.putfield 299, 3) := by decide +kernel
theorem dX15_init_840 : decode cX15_init 840 = .ok (.aload_n 0, 1) := by decide +kernel
theorem dX15_init_841 : decode cX15_init 841 = .ok (.iload_n 2, 1) := by decide +kernel
theorem dX15_init_842 : decode cX15_init 842 = .ok (.iconst 1, 1) := by decide +kernel
theorem dX15_init_843 : decode cX15_init 843 = .ok (.if_icmp .ge 7, 3) := by decide +kernel
theorem dX15_init_846 : decode cX15_init 846 = .ok (.iconst 1, 1) := by decide +kernel
theorem dX15_init_847 : decode cX15_init 847 = .ok (.goto 15, 3) := by decide +kernel
theorem dX15_init_850 : decode cX15_init 850 = .ok (.iload_n 2, 1) := by decide +kernel
theorem dX15_init_851 : decode cX15_init 851 = .ok (.bipush 32, 2) := by decide +kernel
theorem dX15_init_853 : decode cX15_init 853 = .ok (.if_icmp .le 8, 3) := by decide +kernel
theorem dX15_init_856 : decode cX15_init 856 = .ok (.bipush 32, 2) := by decide +kernel
theorem dX15_init_858 : decode cX15_init 858 = .ok (.goto 4, 3) := by decide +kernel
theorem dX15_init_861 : decode cX15_init 861 = .ok (.iload_n 2, 1) := by decide +kernel
theorem dX15_init_862 : decode cX15_init 862 = .ok (.putfield 303, 3) := by decide +kernel
theorem dX15_init_865 : decode cX15_init 865 = .ok (.aload_n 0, 1) := by decide +kernel
theorem dX15_init_866 : decode cX15_init 866 = .ok (.lconst 1, 1) := by decide +kernel
theorem dX15_init_867 : decode cX15_init 867 = .ok (.aload_n 0, 1) := by decide +kernel
theorem dX15_init_868 : decode cX15_init 868 = .ok (.getfield 303, 3) := by decide +kernel
theorem dX15_init_871 : decode cX15_init 871 = .ok (.lshl, 1) := by decide +kernel
theorem dX15_init_872 : decode cX15_init 872 = .ok (.lconst 1, 1) := by decide +kernel
theorem dX15_init_873 : decode cX15_init 873 = .ok (.lsub, 1) := by decide +kernel
theorem dX15_init_874 : decode cX15_init 874 = .ok (.putfield 306, 3) := by decide +kernel
theorem dX15_init_877 : decode cX15_init 877 = .ok (.aload_n 0, 1) := by decide +kernel
theorem dX15_init_878 : decode cX15_init 878 = .ok (.iconst 1, 1) := by decide +kernel
theorem dX15_init_879 : decode cX15_init 879 = .ok (.putfield 310, 3) := by decide +kernel
theorem dX15_init_882 : decode cX15_init 882 = .ok (.aload_n 0, 1) := by decide +kernel
theorem dX15_init_883 : decode cX15_init 883 = .ok (.iconst (-1), 1) := by decide +kernel
theorem dX15_init_884 : decode cX15_init 884 = .ok (.putfield 313, 3) := by decide +kernel
theorem dX15_init_887 : decode cX15_init 887 = .ok (.return_, 1) := by decide +kernel
theorem dX15_feed_0 : decode cX15_feed 0 = .ok (.aload_n 0, 1) := by decide +kernel
theorem dX15_feed_1 : decode cX15_feed 1 = .ok (.iconst 0, 1) := by decide +kernel
theorem dX15_feed_2 : decode cX15_feed 2 = .ok (.iload_n 1, 1) := by decide +kernel
theorem dX15_feed_3 : decode cX15_feed 3 = .ok (.invokevirtual 316, 3) := by decide +kernel
theorem dX15_feed_6 : decode cX15_feed 6 = .ok (.aload_n 0, 1) := by decide +kernel
theorem dX15_feed_7 : decode cX15_feed 7 = .ok (.iconst 4, 1) := by decide +kernel
theorem dX15_feed_8 : decode cX15_feed 8 = .ok (.iload_n 2, 1) := by decide +kernel
theorem dX15_feed_9 : decode cX15_feed 9 = .ok (.invokevirtual 316, 3) := by decide +kernel
theorem dX15_feed_12 : decode cX15_feed 12 = .ok (.aload_n 0, 1) := by decide +kernel
theorem dX15_feed_13 : decode cX15_feed 13 = .ok (.bipush 8, 2) := by decide +kernel
theorem dX15_feed_15 : decode cX15_feed 15 = .ok (.iload_n 3, 1) := by decide +kernel
theorem dX15_feed_16 : decode cX15_feed 16 = .ok (.invokevirtual 316, 3) := by decide +kernel
theorem dX15_feed_19 : decode cX15_feed 19 = .ok (.aload_n 0, 1) := by decide +kernel
theorem dX15_feed_20 : decode cX15_feed 20 = .ok (.bipush 12, 2) := by decide +kernel
theorem dX15_feed_22 : decode cX15_feed 22 = .ok (.iload 4, 2) := by decide +kernel
theorem dX15_feed_24 : decode cX15_feed 24 = .ok (.invokevirtual 316, 3) := by decide +kernel
theorem dX15_feed_27 : decode cX15_feed 27 = .ok (.aload_n 0, 1) := by decide +kernel
theorem dX15_feed_28 : decode cX15_feed 28 = .ok (.bipush 16, 2) := by decide +kernel
theorem dX15_feed_30 : decode cX15_feed 30 = .ok (.iload 5, 2) := by decide +kernel
theorem dX15_feed_32 : decode cX15_feed 32 = .ok (.invokevirtual 316, 3) := by decide +kernel
theorem dX15_feed_35 : decode cX15_feed 35 = .ok (.return_, 1) := by decide +kernel
theorem dX15_word_0 : decode cX15_word 0 = .ok (.iconst 0, 1) := by decide +kernel
theorem dX15_word_1 : decode cX15_word 1 = .ok (.istore_n 3, 1) := by decide +kernel
theorem dX15_word_2 : decode cX15_word 2 = .ok (.iload_n 3, 1) := by decide +kernel
theorem dX15_word_3 : decode cX15_word 3 = .ok (.iconst 4, 1) := by decide +kernel
theorem dX15_word_4 : decode cX15_word 4 = .ok (.if_icmp .ge 30, 3) := by decide +kernel
theorem dX15_word_7 : decode cX15_word 7 = .ok (.aload_n 0, 1) := by decide +kernel
theorem dX15_word_8 : decode cX15_word 8 = .ok (.getfield 7, 3) := by decide +kernel
theorem dX15_word_11 : decode cX15_word 11 = .ok (.iload_n 1, 1) := by decide +kernel
theorem dX15_word_12 : decode cX15_word 12 = .ok (.iload_n 3, 1) := by decide +kernel
theorem dX15_word_13 : decode cX15_word 13 = .ok (.iadd, 1) := by decide +kernel
theorem dX15_word_14 : decode cX15_word 14 = .ok (.iload_n 2, 1) := by decide +kernel
theorem dX15_word_15 : decode cX15_word 15 = .ok (.bipush 24, 2) := by decide +kernel
theorem dX15_word_17 : decode cX15_word 17 = .ok (.bipush 8, 2) := by decide +kernel
theorem dX15_word_19 : decode cX15_word 19 = .ok (.iload_n 3, 1) := by decide +kernel
theorem dX15_word_20 : decode cX15_word 20 = .ok (.imul, 1) := by decide +kernel
theorem dX15_word_21 : decode cX15_word 21 = .ok (.isub, 1) := by decide +kernel
theorem dX15_word_22 : decode cX15_word 22 = .ok (.ishr, 1) := by decide +kernel
theorem dX15_word_23 : decode cX15_word 23 = .ok (.sipush 255, 3) := by decide +kernel
theorem dX15_word_26 : decode cX15_word 26 = .ok (.iand, 1) := by decide +kernel
theorem dX15_word_27 : decode cX15_word 27 = .ok (.iastore, 1) := by decide +kernel
theorem dX15_word_28 : decode cX15_word 28 = .ok (.iinc 3 1, 3) := by decide +kernel
theorem dX15_word_31 : decode cX15_word 31 = .ok (.goto (-29), 3) := by decide +kernel
theorem dX15_word_34 : decode cX15_word 34 = .ok (.return_, 1) := by decide +kernel
theorem dX15_end_0 : decode cX15_end 0 = .ok (.iload_n 1, 1) := by decide +kernel
theorem dX15_end_1 : decode cX15_end 1 = .ok (.ifCond .lt 21, 3) := by decide +kernel
theorem dX15_end_4 : decode cX15_end 4 = .ok (.iload_n 1, 1) := by decide +kernel
theorem dX15_end_5 : decode cX15_end 5 = .ok (.bipush 20, 2) := by decide +kernel
theorem dX15_end_7 : decode cX15_end 7 = .ok (.if_icmp .gt 15, 3) := by decide +kernel
theorem dX15_end_10 : decode cX15_end 10 = .ok (.aload_n 0, 1) := by decide +kernel
theorem dX15_end_11 : decode cX15_end 11 = .ok (.getfield 320, 3) := by decide +kernel
theorem dX15_end_14 : decode cX15_end 14 = .ok (.iload_n 1, 1) := by decide +kernel
theorem dX15_end_15 : decode cX15_end 15 = .ok (.iadd, 1) := by decide +kernel
theorem dX15_end_16 : decode cX15_end 16 = .ok (.sipush 4000, 3) := by decide +kernel
theorem dX15_end_19 : decode cX15_end 19 = .ok (.if_icmp .le 5, 3) := by decide +kernel
theorem dX15_end_22 : decode cX15_end 22 = .ok (.iconst (-1), 1) := by decide +kernel
theorem dX15_end_23 : decode cX15_end 23 = .ok (.ireturn, 1) := by decide +kernel
theorem dX15_end_24 : decode cX15_end 24 = .ok (.iconst 0, 1) := by decide +kernel
theorem dX15_end_25 : decode cX15_end 25 = .ok (.istore_n 2, 1) := by decide +kernel
theorem dX15_end_26 : decode cX15_end 26 = .ok (.iload_n 2, 1) := by decide +kernel
theorem dX15_end_27 : decode cX15_end 27 = .ok (.iload_n 1, 1) := by decide +kernel
theorem dX15_end_28 : decode cX15_end 28 = .ok (.if_icmp .ge 55, 3) := by decide +kernel
theorem dX15_end_31 : decode cX15_end 31 = .ok (.aload_n 0, 1) := by decide +kernel
theorem dX15_end_32 : decode cX15_end 32 = .ok (.getfield 7, 3) := by decide +kernel
theorem dX15_end_35 : decode cX15_end 35 = .ok (.iload_n 2, 1) := by decide +kernel
theorem dX15_end_36 : decode cX15_end 36 = .ok (.iaload, 1) := by decide +kernel
theorem dX15_end_37 : decode cX15_end 37 = .ok (.bipush 9, 2) := by decide +kernel
theorem dX15_end_39 : decode cX15_end 39 = .ok (.if_icmp .eq 38, 3) := by decide +kernel
theorem dX15_end_42 : decode cX15_end 42 = .ok (.aload_n 0, 1) := by decide +kernel
theorem dX15_end_43 : decode cX15_end 43 = .ok (.getfield 7, 3) := by decide +kernel
theorem dX15_end_46 : decode cX15_end 46 = .ok (.iload_n 2, 1) := by decide +kernel
theorem dX15_end_47 : decode cX15_end 47 = .ok (.iaload, 1) := by decide +kernel
theorem dX15_end_48 : decode cX15_end 48 = .ok (.bipush 10, 2) := by decide +kernel
theorem dX15_end_50 : decode cX15_end 50 = .ok (.if_icmp .eq 27, 3) := by decide +kernel
theorem dX15_end_53 : decode cX15_end 53 = .ok (.aload_n 0, 1) := by decide +kernel
theorem dX15_end_54 : decode cX15_end 54 = .ok (.getfield 7, 3) := by decide +kernel
theorem dX15_end_57 : decode cX15_end 57 = .ok (.iload_n 2, 1) := by decide +kernel
theorem dX15_end_58 : decode cX15_end 58 = .ok (.iaload, 1) := by decide +kernel
theorem dX15_end_59 : decode cX15_end 59 = .ok (.bipush 32, 2) := by decide +kernel
theorem dX15_end_61 : decode cX15_end 61 = .ok (.if_icmp .lt 14, 3) := by decide +kernel
theorem dX15_end_64 : decode cX15_end 64 = .ok (.aload_n 0, 1) := by decide +kernel
theorem dX15_end_65 : decode cX15_end 65 = .ok (.getfield 7, 3) := by decide +kernel
theorem dX15_end_68 : decode cX15_end 68 = .ok (.iload_n 2, 1) := by decide +kernel
theorem dX15_end_69 : decode cX15_end 69 = .ok (.iaload, 1) := by decide +kernel
theorem dX15_end_70 : decode cX15_end 70 = .ok (.bipush 126, 2) := by decide +kernel
theorem dX15_end_72 : decode cX15_end 72 = .ok (.if_icmp .le 5, 3) := by decide +kernel
theorem dX15_end_75 : decode cX15_end 75 = .ok (.iconst (-1), 1) := by decide +kernel
theorem dX15_end_76 : decode cX15_end 76 = .ok (.ireturn, 1) := by decide +kernel
theorem dX15_end_77 : decode cX15_end 77 = .ok (.iinc 2 1, 3) := by decide +kernel
theorem dX15_end_80 : decode cX15_end 80 = .ok (.goto (-54), 3) := by decide +kernel
theorem dX15_end_83 : decode cX15_end 83 = .ok (.iconst 0, 1) := by decide +kernel
theorem dX15_end_84 : decode cX15_end 84 = .ok (.istore_n 2, 1) := by decide +kernel
theorem dX15_end_85 : decode cX15_end 85 = .ok (.iload_n 2, 1) := by decide +kernel
theorem dX15_end_86 : decode cX15_end 86 = .ok (.iload_n 1, 1) := by decide +kernel
theorem dX15_end_87 : decode cX15_end 87 = .ok (.if_icmp .ge 26, 3) := by decide +kernel
theorem dX15_end_90 : decode cX15_end 90 = .ok (.aload_n 0, 1) := by decide +kernel
theorem dX15_end_91 : decode cX15_end 91 = .ok (.getfield 13, 3) := by decide +kernel
theorem dX15_end_94 : decode cX15_end 94 = .ok (.aload_n 0, 1) := by decide +kernel
theorem dX15_end_95 : decode cX15_end 95 = .ok (.getfield 320, 3) := by decide +kernel
theorem dX15_end_98 : decode cX15_end 98 = .ok (.iload_n 2, 1) := by decide +kernel
theorem dX15_end_99 : decode cX15_end 99 = .ok (.iadd, 1) := by decide +kernel
theorem dX15_end_100 : decode cX15_end 100 = .ok (.aload_n 0, 1) := by decide +kernel
theorem dX15_end_101 : decode cX15_end 101 = .ok (.getfield 7, 3) := by decide +kernel
theorem dX15_end_104 : decode cX15_end 104 = .ok (.iload_n 2, 1) := by decide +kernel
theorem dX15_end_105 : decode cX15_end 105 = .ok (.iaload, 1) := by decide +kernel
theorem dX15_end_106 : decode cX15_end 106 = .ok (.iastore, 1) := by decide +kernel
theorem dX15_end_107 : decode cX15_end 107 = .ok (.iinc 2 1, 3) := by decide +kernel
theorem dX15_end_110 : decode cX15_end 110 = .ok (.goto (-25), 3) := by decide +kernel
theorem dX15_end_113 : decode cX15_end 113 = .ok (.aload_n 0, 1) := by decide +kernel
theorem dX15_end_114 : decode cX15_end 114 = .ok (.dup, 1) := by decide +kernel
theorem dX15_end_115 : decode cX15_end 115 = .ok (.getfield 320, 3) := by decide +kernel
theorem dX15_end_118 : decode cX15_end 118 = .ok (.iload_n 1, 1) := by decide +kernel
theorem dX15_end_119 : decode cX15_end 119 = .ok (.iadd, 1) := by decide +kernel
theorem dX15_end_120 : decode cX15_end 120 = .ok (.putfield 320, 3) := by decide +kernel
theorem dX15_end_123 : decode cX15_end 123 = .ok (.iconst 0, 1) := by decide +kernel
theorem dX15_end_124 : decode cX15_end 124 = .ok (.istore_n 2, 1) := by decide +kernel
theorem dX15_end_125 : decode cX15_end 125 = .ok (.iload_n 2, 1) := by decide +kernel
theorem dX15_end_126 : decode cX15_end 126 = .ok (.bipush 20, 2) := by decide +kernel
theorem dX15_end_128 : decode cX15_end 128 = .ok (.if_icmp .ge 16, 3) := by decide +kernel
theorem dX15_end_131 : decode cX15_end 131 = .ok (.aload_n 0, 1) := by decide +kernel
theorem dX15_end_132 : decode cX15_end 132 = .ok (.getfield 7, 3) := by decide +kernel
theorem dX15_end_135 : decode cX15_end 135 = .ok (.iload_n 2, 1) := by decide +kernel
theorem dX15_end_136 : decode cX15_end 136 = .ok (.iconst 0, 1) := by decide +kernel
theorem dX15_end_137 : decode cX15_end 137 = .ok (.iastore, 1) := by decide +kernel
theorem dX15_end_138 : decode cX15_end 138 = .ok (.iinc 2 1, 3) := by decide +kernel
theorem dX15_end_141 : decode cX15_end 141 = .ok (.goto (-16), 3) := by decide +kernel
theorem dX15_end_144 : decode cX15_end 144 = .ok (.aload_n 0, 1) := by decide +kernel
theorem dX15_end_145 : decode cX15_end 145 = .ok (.getfield 320, 3) := by decide +kernel
theorem dX15_end_148 : decode cX15_end 148 = .ok (.ireturn, 1) := by decide +kernel
theorem dX15_compile_0 : decode cX15_compile 0 = .ok (.aload_n 0, 1) := by decide +kernel
theorem dX15_compile_1 : decode cX15_compile 1 = .ok (.iconst 0, 1) := by decide +kernel
theorem dX15_compile_2 : decode cX15_compile 2 = .ok (.putfield 323, 3) := by decide +kernel
theorem dX15_compile_5 : decode cX15_compile 5 = .ok (.aload_n 0, 1) := by decide +kernel
theorem dX15_compile_6 : decode cX15_compile 6 = .ok (.iconst (-1), 1) := by decide +kernel
theorem dX15_compile_7 : decode cX15_compile 7 = .ok (.putfield 313, 3) := by decide +kernel
theorem dX15_compile_10 : decode cX15_compile 10 = .ok (.aload_n 0, 1) := by decide +kernel
theorem dX15_compile_11 : decode cX15_compile 11 = .ok (.invokevirtual 836, 3) := by decide +kernel
theorem dX15_compile_14 : decode cX15_compile 14 = .ok (.aload_n 0, 1) := by decide +kernel
theorem dX15_compile_15 : decode cX15_compile 15 = .ok (.invokevirtual 839, 3) := by decide +kernel
theorem dX15_compile_18 : decode cX15_compile 18 = .ok (.aload_n 0, 1) := by decide +kernel
theorem dX15_compile_19 : decode cX15_compile 19 = .ok (.getfield 323, 3) := by decide +kernel
theorem dX15_compile_22 : decode cX15_compile 22 = .ok (.ifCond .ne 7, 3) := by decide +kernel
theorem dX15_compile_25 : decode cX15_compile 25 = .ok (.aload_n 0, 1) := by decide +kernel
theorem dX15_compile_26 : decode cX15_compile 26 = .ok (.invokevirtual 842, 3) := by decide +kernel
theorem dX15_compile_29 : decode cX15_compile 29 = .ok (.aload_n 0, 1) := by decide +kernel
theorem dX15_compile_30 : decode cX15_compile 30 = .ok (.getfield 323, 3) := by decide +kernel
theorem dX15_compile_33 : decode cX15_compile 33 = .ok (.ifCond .ne 7, 3) := by decide +kernel
theorem dX15_compile_36 : decode cX15_compile 36 = .ok (.aload_n 0, 1) := by decide +kernel
theorem dX15_compile_37 : decode cX15_compile 37 = .ok (.invokevirtual 845, 3) := by decide +kernel
theorem dX15_compile_40 : decode cX15_compile 40 = .ok (.aload_n 0, 1) := by decide +kernel
theorem dX15_compile_41 : decode cX15_compile 41 = .ok (.aload_n 0, 1) := by decide +kernel
theorem dX15_compile_42 : decode cX15_compile 42 = .ok (.getfield 323, 3) := by decide +kernel
theorem dX15_compile_45 : decode cX15_compile 45 = .ok (.ifCond .ne 7, 3) := by decide +kernel
theorem dX15_compile_48 : decode cX15_compile 48 = .ok (.iconst 1, 1) := by decide +kernel
theorem dX15_compile_49 : decode cX15_compile 49 = .ok (.goto 4, 3) := by decide +kernel
theorem dX15_compile_52 : decode cX15_compile 52 = .ok (.iconst 0, 1) := by decide +kernel
theorem dX15_compile_53 : decode cX15_compile 53 = .ok (.putfield 848, 3) := by decide +kernel
theorem dX15_compile_56 : decode cX15_compile 56 = .ok (.aload_n 0, 1) := by decide +kernel
theorem dX15_compile_57 : decode cX15_compile 57 = .ok (.iconst 0, 1) := by decide +kernel
theorem dX15_compile_58 : decode cX15_compile 58 = .ok (.putfield 320, 3) := by decide +kernel
theorem dX15_compile_61 : decode cX15_compile 61 = .ok (.aload_n 0, 1) := by decide +kernel
theorem dX15_compile_62 : decode cX15_compile 62 = .ok (.getfield 848, 3) := by decide +kernel
theorem dX15_compile_65 : decode cX15_compile 65 = .ok (.ifCond .eq 102, 3) := by decide +kernel
theorem dX15_compile_68 : decode cX15_compile 68 = .ok (.aload_n 0, 1) := by decide +kernel
theorem dX15_compile_69 : decode cX15_compile 69 = .ok (.invokevirtual 851, 3) := by decide +kernel
theorem dX15_compile_72 : decode cX15_compile 72 = .ok (.aload_n 0, 1) := by decide +kernel
theorem dX15_compile_73 : decode cX15_compile 73 = .ok (.iconst 0, 1) := by decide +kernel
theorem dX15_compile_74 : decode cX15_compile 74 = .ok (.putfield 824, 3) := by decide +kernel
theorem dX15_compile_77 : decode cX15_compile 77 = .ok (.iconst 0, 1) := by decide +kernel
theorem dX15_compile_78 : decode cX15_compile 78 = .ok (.istore_n 1, 1) := by decide +kernel
theorem dX15_compile_79 : decode cX15_compile 79 = .ok (.iload_n 1, 1) := by decide +kernel
theorem dX15_compile_80 : decode cX15_compile 80 = .ok (.aload_n 0, 1) := by decide +kernel
theorem dX15_compile_81 : decode cX15_compile 81 = .ok (.getfield 672, 3) := by decide +kernel
theorem dX15_compile_84 : decode cX15_compile 84 = .ok (.if_icmp .ge 24, 3) := by decide +kernel
theorem dX15_compile_87 : decode cX15_compile 87 = .ok (.aload_n 0, 1) := by decide +kernel
theorem dX15_compile_88 : decode cX15_compile 88 = .ok (.dup, 1) := by decide +kernel
theorem dX15_compile_89 : decode cX15_compile 89 = .ok (.getfield 824, 3) := by decide +kernel
theorem dX15_compile_92 : decode cX15_compile 92 = .ok (.aload_n 0, 1) := by decide +kernel
theorem dX15_compile_93 : decode cX15_compile 93 = .ok (.getfield 151, 3) := by decide +kernel
theorem dX15_compile_96 : decode cX15_compile 96 = .ok (.iload_n 1, 1) := by decide +kernel
theorem dX15_compile_97 : decode cX15_compile 97 = .ok (.iaload, 1) := by decide +kernel
theorem dX15_compile_98 : decode cX15_compile 98 = .ok (.iadd, 1) := by decide +kernel
theorem dX15_compile_99 : decode cX15_compile 99 = .ok (.putfield 824, 3) := by decide +kernel
theorem dX15_compile_102 : decode cX15_compile 102 = .ok (.iinc 1 1, 3) := by decide +kernel
theorem dX15_compile_105 : decode cX15_compile 105 = .ok (.goto (-26), 3) := by decide +kernel
theorem dX15_compile_108 : decode cX15_compile 108 = .ok (.iconst 0, 1) := by decide +kernel
theorem dX15_compile_109 : decode cX15_compile 109 = .ok (.istore_n 1, 1) := by decide +kernel
theorem dX15_compile_110 : decode cX15_compile 110 = .ok (.iload_n 1, 1) := by decide +kernel
theorem dX15_compile_111 : decode cX15_compile 111 = .ok (.aload_n 0, 1) := by decide +kernel
theorem dX15_compile_112 : decode cX15_compile 112 = .ok (.getfield 299, 3) := by decide +kernel
theorem dX15_compile_115 : decode cX15_compile 115 = .ok (.if_icmp .ge 16, 3) := by decide +kernel
theorem dX15_compile_118 : decode cX15_compile 118 = .ok (.aload_n 0, 1) := by decide +kernel
theorem dX15_compile_119 : decode cX15_compile 119 = .ok (.getfield 296, 3) := by decide +kernel
theorem dX15_compile_122 : decode cX15_compile 122 = .ok (.iload_n 1, 1) := by decide +kernel
theorem dX15_compile_123 : decode cX15_compile 123 = .ok (.iconst 0, 1) := by decide +kernel
theorem dX15_compile_124 : decode cX15_compile 124 = .ok (.iastore, 1) := by decide +kernel
theorem dX15_compile_125 : decode cX15_compile 125 = .ok (.iinc 1 1, 3) := by decide +kernel
theorem dX15_compile_128 : decode cX15_compile 128 = .ok (.goto (-18), 3) := by decide +kernel
theorem dX15_compile_131 : decode cX15_compile 131 = .ok (.iconst 0, 1) := by decide +kernel
theorem dX15_compile_132 : decode cX15_compile 132 = .ok (.istore_n 1, 1) := by decide +kernel
theorem dX15_compile_133 : decode cX15_compile 133 = .ok (.iload_n 1, 1) := by decide +kernel
theorem dX15_compile_134 : decode cX15_compile 134 = .ok (.aload_n 0, 1) := by decide +kernel
theorem dX15_compile_135 : decode cX15_compile 135 = .ok (.getfield 663, 3) := by decide +kernel
theorem dX15_compile_138 : decode cX15_compile 138 = .ok (.if_icmp .ge 29, 3) := by decide +kernel
theorem dX15_compile_141 : decode cX15_compile 141 = .ok (.aload_n 0, 1) := by decide +kernel
theorem dX15_compile_142 : decode cX15_compile 142 = .ok (.getfield 296, 3) := by decide +kernel
theorem dX15_compile_145 : decode cX15_compile 145 = .ok (.aload_n 0, 1) := by decide +kernel
theorem dX15_compile_146 : decode cX15_compile 146 = .ok (.getfield 136, 3) := by decide +kernel
theorem dX15_compile_149 : decode cX15_compile 149 = .ok (.iload_n 1, 1) := by decide +kernel
theorem dX15_compile_150 : decode cX15_compile 150 = .ok (.iaload, 1) := by decide +kernel
theorem dX15_compile_151 : decode cX15_compile 151 = .ok (.dup2, 1) := by decide +kernel
theorem dX15_compile_152 : decode cX15_compile 152 = .ok (.iaload, 1) := by decide +kernel
theorem dX15_compile_153 : decode cX15_compile 153 = .ok (.aload_n 0, 1) := by decide +kernel
theorem dX15_compile_154 : decode cX15_compile 154 = .ok (.getfield 139, 3) := by decide +kernel
theorem dX15_compile_157 : decode cX15_compile 157 = .ok (.iload_n 1, 1) := by decide +kernel
theorem dX15_compile_158 : decode cX15_compile 158 = .ok (.iaload, 1) := by decide +kernel
theorem dX15_compile_159 : decode cX15_compile 159 = .ok (.iadd, 1) := by decide +kernel
theorem dX15_compile_160 : decode cX15_compile 160 = .ok (.iastore, 1) := by decide +kernel
theorem dX15_compile_161 : decode cX15_compile 161 = .ok (.iinc 1 1, 3) := by decide +kernel
theorem dX15_compile_164 : decode cX15_compile 164 = .ok (.goto (-31), 3) := by decide +kernel
theorem dX15_compile_167 : decode cX15_compile 167 = .ok (.aload_n 0, 1) := by decide +kernel
theorem dX15_compile_168 : decode cX15_compile 168 = .ok (.getfield 323, 3) := by decide +kernel
theorem dX15_compile_171 : decode cX15_compile 171 = .ok (.ireturn, 1) := by decide +kernel
theorem dX15_forget_0 : decode cX15_forget 0 = .ok (.aload_n 0, 1) := by decide +kernel
theorem dX15_forget_1 : decode cX15_forget 1 = .ok (.iconst 0, 1) := by decide +kernel
theorem dX15_forget_2 : decode cX15_forget 2 = .ok (.putfield 762, 3) := by decide +kernel
theorem dX15_forget_5 : decode cX15_forget 5 = .ok (.aload_n 0, 1) := by decide +kernel
theorem dX15_forget_6 : decode cX15_forget 6 = .ok (.iconst 0, 1) := by decide +kernel
theorem dX15_forget_7 : decode cX15_forget 7 = .ok (.putfield 818, 3) := by decide +kernel
theorem dX15_forget_10 : decode cX15_forget 10 = .ok (.aload_n 0, 1) := by decide +kernel
theorem dX15_forget_11 : decode cX15_forget 11 = .ok (.iconst 0, 1) := by decide +kernel
theorem dX15_forget_12 : decode cX15_forget 12 = .ok (.putfield 830, 3) := by decide +kernel
theorem dX15_forget_15 : decode cX15_forget 15 = .ok (.aload_n 0, 1) := by decide +kernel
theorem dX15_forget_16 : decode cX15_forget 16 = .ok (.iconst 0, 1) := by decide +kernel
theorem dX15_forget_17 : decode cX15_forget 17 = .ok (.putfield 777, 3) := by decide +kernel
theorem dX15_forget_20 : decode cX15_forget 20 = .ok (.return_, 1) := by decide +kernel
theorem dX15_program_0 : decode cX15_program 0 = .ok (.aload_n 0, 1) := by decide +kernel
theorem dX15_program_1 : decode cX15_program 1 = .ok (.iconst 0, 1) := by decide +kernel
theorem dX15_program_2 : decode cX15_program 2 = .ok (.putfield 326, 3) := by decide +kernel
theorem dX15_program_5 : decode cX15_program 5 = .ok (.aload_n 0, 1) := by decide +kernel
theorem dX15_program_6 : decode cX15_program 6 = .ok (.iconst 0, 1) := by decide +kernel
theorem dX15_program_7 : decode cX15_program 7 = .ok (.putfield 411, 3) := by decide +kernel
theorem dX15_program_10 : decode cX15_program 10 = .ok (.aload_n 0, 1) := by decide +kernel
theorem dX15_program_11 : decode cX15_program 11 = .ok (.iconst 0, 1) := by decide +kernel
theorem dX15_program_12 : decode cX15_program 12 = .ok (.putfield 393, 3) := by decide +kernel
theorem dX15_program_15 : decode cX15_program 15 = .ok (.aload_n 0, 1) := by decide +kernel
theorem dX15_program_16 : decode cX15_program 16 = .ok (.iconst 0, 1) := by decide +kernel
theorem dX15_program_17 : decode cX15_program 17 = .ok (.putfield 501, 3) := by decide +kernel
theorem dX15_program_20 : decode cX15_program 20 = .ok (.aload_n 0, 1) := by decide +kernel
theorem dX15_program_21 : decode cX15_program 21 = .ok (.iconst 0, 1) := by decide +kernel
theorem dX15_program_22 : decode cX15_program 22 = .ok (.putfield 417, 3) := by decide +kernel
theorem dX15_program_25 : decode cX15_program 25 = .ok (.aload_n 0, 1) := by decide +kernel
theorem dX15_program_26 : decode cX15_program 26 = .ok (.iconst 0, 1) := by decide +kernel
theorem dX15_program_27 : decode cX15_program 27 = .ok (.putfield 414, 3) := by decide +kernel
theorem dX15_program_30 : decode cX15_program 30 = .ok (.aload_n 0, 1) := by decide +kernel
theorem dX15_program_31 : decode cX15_program 31 = .ok (.iconst 0, 1) := by decide +kernel
theorem dX15_program_32 : decode cX15_program 32 = .ok (.putfield 488, 3) := by decide +kernel
theorem dX15_program_35 : decode cX15_program 35 = .ok (.aload_n 0, 1) := by decide +kernel
theorem dX15_program_36 : decode cX15_program 36 = .ok (.iconst 0, 1) := by decide +kernel
theorem dX15_program_37 : decode cX15_program 37 = .ok (.putfield 493, 3) := by decide +kernel
theorem dX15_program_40 : decode cX15_program 40 = .ok (.iconst 1, 1) := by decide +kernel
theorem dX15_program_41 : decode cX15_program 41 = .ok (.istore_n 1, 1) := by decide +kernel
theorem dX15_program_42 : decode cX15_program 42 = .ok (.iload_n 1, 1) := by decide +kernel
theorem dX15_program_43 : decode cX15_program 43 = .ok (.ifCond .eq 211, 3) := by decide +kernel
theorem dX15_program_46 : decode cX15_program 46 = .ok (.aload_n 0, 1) := by decide +kernel
theorem dX15_program_47 : decode cX15_program 47 = .ok (.getfield 323, 3) := by decide +kernel
theorem dX15_program_50 : decode cX15_program 50 = .ok (.ifCond .ne 204, 3) := by decide +kernel
theorem dX15_program_53 : decode cX15_program 53 = .ok (.aload_n 0, 1) := by decide +kernel
theorem dX15_program_54 : decode cX15_program 54 = .ok (.invokevirtual 383, 3) := by decide +kernel
theorem dX15_program_57 : decode cX15_program 57 = .ok (.aload_n 0, 1) := by decide +kernel
theorem dX15_program_58 : decode cX15_program 58 = .ok (.getfield 326, 3) := by decide +kernel
theorem dX15_program_61 : decode cX15_program 61 = .ok (.istore_n 2, 1) := by decide +kernel
theorem dX15_program_62 : decode cX15_program 62 = .ok (.aload_n 0, 1) := by decide +kernel
theorem dX15_program_63 : decode cX15_program 63 = .ok (.getfield 326, 3) := by decide +kernel
theorem dX15_program_66 : decode cX15_program 66 = .ok (.aload_n 0, 1) := by decide +kernel
theorem dX15_program_67 : decode cX15_program 67 = .ok (.getfield 320, 3) := by decide +kernel
theorem dX15_program_70 : decode cX15_program 70 = .ok (.if_icmp .ne 24, 3) := by decide +kernel
theorem dX15_program_73 : decode cX15_program 73 = .ok (.aload_n 0, 1) := by decide +kernel
theorem dX15_program_74 : decode cX15_program 74 = .ok (.getfield 501, 3) := by decide +kernel
theorem dX15_program_77 : decode cX15_program 77 = .ok (.ifCond .le 12, 3) := by decide +kernel
theorem dX15_program_80 : decode cX15_program 80 = .ok (.aload_n 0, 1) := by decide +kernel
theorem dX15_program_81 : decode cX15_program 81 = .ok (.iconst 1, 1) := by decide +kernel
theorem dX15_program_82 : decode cX15_program 82 = .ok (.aload_n 0, 1) := by decide +kernel
theorem dX15_program_83 : decode cX15_program 83 = .ok (.getfield 326, 3) := by decide +kernel
theorem dX15_program_86 : decode cX15_program 86 = .ok (.invokevirtual 390, 3) := by decide +kernel
theorem dX15_program_89 : decode cX15_program 89 = .ok (.iconst 0, 1) := by decide +kernel
theorem dX15_program_90 : decode cX15_program 90 = .ok (.istore_n 1, 1) := by decide +kernel
theorem dX15_program_91 : decode cX15_program 91 = .ok (.goto 160, 3) := by decide +kernel
theorem dX15_program_94 : decode cX15_program 94 = .ok (.aload_n 0, 1) := by decide +kernel
theorem dX15_program_95 : decode cX15_program 95 = .ok (.bipush 125, 2) := by decide +kernel
theorem dX15_program_97 : decode cX15_program 97 = .ok (.invokevirtual 408, 3) := by decide +kernel
theorem dX15_program_100 : decode cX15_program 100 = .ok (.ifCond .eq 17, 3) := by decide +kernel
theorem dX15_program_103 : decode cX15_program 103 = .ok (.aload_n 0, 1) := by decide +kernel
theorem dX15_program_104 : decode cX15_program 104 = .ok (.getfield 501, 3) := by decide +kernel
theorem dX15_program_107 : decode cX15_program 107 = .ok (.ifCond .le 10, 3) := by decide +kernel
theorem dX15_program_110 : decode cX15_program 110 = .ok (.aload_n 0, 1) := by decide +kernel
theorem dX15_program_111 : decode cX15_program 111 = .ok (.invokevirtual 513, 3) := by decide +kernel
theorem dX15_program_114 : decode cX15_program 114 = .ok (.goto 137, 3) := by decide +kernel
theorem dX15_program_117 : decode cX15_program 117 = .ok (.aload_n 0, 1) := by decide +kernel
theorem dX15_program_118 : decode cX15_program 118 = .ok (.ldc_w 361, 3) := by decide +kernel
theorem dX15_program_121 : decode cX15_program 121 = .ok (.invokevirtual 355, 3) := by decide +kernel
theorem dX15_program_124 : decode cX15_program 124 = .ok (.ifCond .eq 11, 3) := by decide +kernel
theorem dX15_program_127 : decode cX15_program 127 = .ok (.aload_n 0, 1) := by decide +kernel
theorem dX15_program_128 : decode cX15_program 128 = .ok (.iload_n 2, 1) := by decide +kernel
theorem dX15_program_129 : decode cX15_program 129 = .ok (.invokevirtual 516, 3) := by decide +kernel
theorem dX15_program_132 : decode cX15_program 132 = .ok (.goto 119, 3) := by decide +kernel
theorem dX15_program_135 : decode cX15_program 135 = .ok (.aload_n 0, 1) := by decide +kernel
theorem dX15_program_136 : decode cX15_program 136 = .ok (.ldc_w 369, 3) := by decide +kernel
theorem dX15_program_139 : decode cX15_program 139 = .ok (.invokevirtual 355, 3) := by decide +kernel
theorem dX15_program_142 : decode cX15_program 142 = .ok (.ifCond .eq 11, 3) := by decide +kernel
theorem dX15_program_145 : decode cX15_program 145 = .ok (.aload_n 0, 1) := by decide +kernel
theorem dX15_program_146 : decode cX15_program 146 = .ok (.iload_n 2, 1) := by decide +kernel
theorem dX15_program_147 : decode cX15_program 147 = .ok (.invokevirtual 507, 3) := by decide +kernel
theorem dX15_program_150 : decode cX15_program 150 = .ok (.goto 101, 3) := by decide +kernel
theorem dX15_program_153 : decode cX15_program 153 = .ok (.aload_n 0, 1) := by decide +kernel
theorem dX15_program_154 : decode cX15_program 154 = .ok (.ldc_w 365, 3) := by decide +kernel
theorem dX15_program_157 : decode cX15_program 157 = .ok (.invokevirtual 355, 3) := by decide +kernel
theorem dX15_program_160 : decode cX15_program 160 = .ok (.ifCond .eq 11, 3) := by decide +kernel
theorem dX15_program_163 : decode cX15_program 163 = .ok (.aload_n 0, 1) := by decide +kernel
theorem dX15_program_164 : decode cX15_program 164 = .ok (.iload_n 2, 1) := by decide +kernel
theorem dX15_program_165 : decode cX15_program 165 = .ok (.invokevirtual 519, 3) := by decide +kernel
theorem dX15_program_168 : decode cX15_program 168 = .ok (.goto 83, 3) := by decide +kernel
theorem dX15_program_171 : decode cX15_program 171 = .ok (.aload_n 0, 1) := by decide +kernel
theorem dX15_program_172 : decode cX15_program 172 = .ok (.getfield 501, 3) := by decide +kernel
theorem dX15_program_175 : decode cX15_program 175 = .ok (.ifCond .ne 21, 3) := by decide +kernel
theorem dX15_program_178 : decode cX15_program 178 = .ok (.aload_n 0, 1) := by decide +kernel
theorem dX15_program_179 : decode cX15_program 179 = .ok (.ldc_w 353, 3) := by decide +kernel
theorem dX15_program_182 : decode cX15_program 182 = .ok (.invokevirtual 355, 3) := by decide +kernel
theorem dX15_program_185 : decode cX15_program 185 = .ok (.ifCond .eq 11, 3) := by decide +kernel
theorem dX15_program_188 : decode cX15_program 188 = .ok (.aload_n 0, 1) := by decide +kernel
theorem dX15_program_189 : decode cX15_program 189 = .ok (.iload_n 2, 1) := by decide +kernel
theorem dX15_program_190 : decode cX15_program 190 = .ok (.invokevirtual 522, 3) := by decide +kernel
theorem dX15_program_193 : decode cX15_program 193 = .ok (.goto 58, 3) := by decide +kernel
theorem dX15_program_196 : decode cX15_program 196 = .ok (.aload_n 0, 1) := by decide +kernel
theorem dX15_program_197 : decode cX15_program 197 = .ok (.getfield 501, 3) := by decide +kernel
theorem dX15_program_200 : decode cX15_program 200 = .ok (.ifCond .ne 21, 3) := by decide +kernel
theorem dX15_program_203 : decode cX15_program 203 = .ok (.aload_n 0, 1) := by decide +kernel
theorem dX15_program_204 : decode cX15_program 204 = .ok (.ldc_w 363, 3) := by decide +kernel
theorem dX15_program_207 : decode cX15_program 207 = .ok (.invokevirtual 355, 3) := by decide +kernel
theorem dX15_program_210 : decode cX15_program 210 = .ok (.ifCond .eq 11, 3) := by decide +kernel
theorem dX15_program_213 : decode cX15_program 213 = .ok (.aload_n 0, 1) := by decide +kernel
theorem dX15_program_214 : decode cX15_program 214 = .ok (.iload_n 2, 1) := by decide +kernel
theorem dX15_program_215 : decode cX15_program 215 = .ok (.invokevirtual 525, 3) := by decide +kernel
theorem dX15_program_218 : decode cX15_program 218 = .ok (.goto 33, 3) := by decide +kernel
theorem dX15_program_221 : decode cX15_program 221 = .ok (.aload_n 0, 1) := by decide +kernel
theorem dX15_program_222 : decode cX15_program 222 = .ok (.getfield 501, 3) := by decide +kernel
theorem dX15_program_225 : decode cX15_program 225 = .ok (.ifCond .ne 21, 3) := by decide +kernel
theorem dX15_program_228 : decode cX15_program 228 = .ok (.aload_n 0, 1) := by decide +kernel
theorem dX15_program_229 : decode cX15_program 229 = .ok (.ldc_w 373, 3) := by decide +kernel
theorem dX15_program_232 : decode cX15_program 232 = .ok (.invokevirtual 355, 3) := by decide +kernel
theorem dX15_program_235 : decode cX15_program 235 = .ok (.ifCond .eq 11, 3) := by decide +kernel
theorem dX15_program_238 : decode cX15_program 238 = .ok (.aload_n 0, 1) := by decide +kernel
theorem dX15_program_239 : decode cX15_program 239 = .ok (.iload_n 2, 1) := by decide +kernel
theorem dX15_program_240 : decode cX15_program 240 = .ok (.invokevirtual 528, 3) := by decide +kernel
theorem dX15_program_243 : decode cX15_program 243 = .ok (.goto 8, 3) := by decide +kernel
theorem dX15_program_246 : decode cX15_program 246 = .ok (.aload_n 0, 1) := by decide +kernel
theorem dX15_program_247 : decode cX15_program 247 = .ok (.iload_n 2, 1) := by decide +kernel
theorem dX15_program_248 : decode cX15_program 248 = .ok (.invokevirtual 531, 3) := by decide +kernel
theorem dX15_program_251 : decode cX15_program 251 = .ok (.goto (-209), 3) := by decide +kernel
theorem dX15_program_254 : decode cX15_program 254 = .ok (.return_, 1) := by decide +kernel
theorem dX15_gap_0 : decode cX15_gap 0 = .ok (.iconst 1, 1) := by decide +kernel
theorem dX15_gap_1 : decode cX15_gap 1 = .ok (.istore_n 1, 1) := by decide +kernel
theorem dX15_gap_2 : decode cX15_gap 2 = .ok (.iload_n 1, 1) := by decide +kernel
theorem dX15_gap_3 : decode cX15_gap 3 = .ok (.ifCond .eq 114, 3) := by decide +kernel
theorem dX15_gap_6 : decode cX15_gap 6 = .ok (.aload_n 0, 1) := by decide +kernel
theorem dX15_gap_7 : decode cX15_gap 7 = .ok (.iconst 0, 1) := by decide +kernel
theorem dX15_gap_8 : decode cX15_gap 8 = .ok (.invokevirtual 329, 3) := by decide +kernel
theorem dX15_gap_11 : decode cX15_gap 11 = .ok (.istore_n 2, 1) := by decide +kernel
theorem dX15_gap_12 : decode cX15_gap 12 = .ok (.iload_n 2, 1) := by decide +kernel
theorem dX15_gap_13 : decode cX15_gap 13 = .ok (.bipush 32, 2) := by decide +kernel
theorem dX15_gap_15 : decode cX15_gap 15 = .ok (.if_icmp .eq 21, 3) := by decide +kernel
theorem dX15_gap_18 : decode cX15_gap 18 = .ok (.iload_n 2, 1) := by decide +kernel
theorem dX15_gap_19 : decode cX15_gap 19 = .ok (.bipush 9, 2) := by decide +kernel
theorem dX15_gap_21 : decode cX15_gap 21 = .ok (.if_icmp .eq 15, 3) := by decide +kernel
theorem dX15_gap_24 : decode cX15_gap 24 = .ok (.iload_n 2, 1) := by decide +kernel
theorem dX15_gap_25 : decode cX15_gap 25 = .ok (.bipush 10, 2) := by decide +kernel
theorem dX15_gap_27 : decode cX15_gap 27 = .ok (.if_icmp .eq 9, 3) := by decide +kernel
theorem dX15_gap_30 : decode cX15_gap 30 = .ok (.iload_n 2, 1) := by decide +kernel
theorem dX15_gap_31 : decode cX15_gap 31 = .ok (.bipush 35, 2) := by decide +kernel
theorem dX15_gap_33 : decode cX15_gap 33 = .ok (.if_icmp .ne 7, 3) := by decide +kernel
theorem dX15_gap_36 : decode cX15_gap 36 = .ok (.iconst 1, 1) := by decide +kernel
theorem dX15_gap_37 : decode cX15_gap 37 = .ok (.goto 4, 3) := by decide +kernel
theorem dX15_gap_40 : decode cX15_gap 40 = .ok (.iconst 0, 1) := by decide +kernel
theorem dX15_gap_41 : decode cX15_gap 41 = .ok (.istore_n 1, 1) := by decide +kernel
theorem dX15_gap_42 : decode cX15_gap 42 = .ok (.iload_n 2, 1) := by decide +kernel
theorem dX15_gap_43 : decode cX15_gap 43 = .ok (.bipush 35, 2) := by decide +kernel
theorem dX15_gap_45 : decode cX15_gap 45 = .ok (.if_icmp .ne 55, 3) := by decide +kernel
theorem dX15_gap_48 : decode cX15_gap 48 = .ok (.aload_n 0, 1) := by decide +kernel
theorem dX15_gap_49 : decode cX15_gap 49 = .ok (.getfield 326, 3) := by decide +kernel
theorem dX15_gap_52 : decode cX15_gap 52 = .ok (.aload_n 0, 1) := by decide +kernel
theorem dX15_gap_53 : decode cX15_gap 53 = .ok (.getfield 320, 3) := by decide +kernel
theorem dX15_gap_56 : decode cX15_gap 56 = .ok (.if_icmp .ge 58, 3) := by decide +kernel
theorem dX15_gap_59 : decode cX15_gap 59 = .ok (.aload_n 0, 1) := by decide +kernel
theorem dX15_gap_60 : decode cX15_gap 60 = .ok (.getfield 13, 3) := by decide +kernel
theorem dX15_gap_63 : decode cX15_gap 63 = .ok (.aload_n 0, 1) := by decide +kernel
theorem dX15_gap_64 : decode cX15_gap 64 = .ok (.getfield 326, 3) := by decide +kernel
theorem dX15_gap_67 : decode cX15_gap 67 = .ok (.sipush 4000, 3) := by decide +kernel
theorem dX15_gap_70 : decode cX15_gap 70 = .ok (.if_icmp .ge 10, 3) := by decide +kernel
theorem dX15_gap_73 : decode cX15_gap 73 = .ok (.aload_n 0, 1) := by decide +kernel
theorem dX15_gap_74 : decode cX15_gap 74 = .ok (.getfield 326, 3) := by decide +kernel
theorem dX15_gap_77 : decode cX15_gap 77 = .ok (.goto 4, 3) := by decide +kernel
theorem dX15_gap_80 : decode cX15_gap 80 = .ok (.iconst 0, 1) := by decide +kernel
theorem dX15_gap_81 : decode cX15_gap 81 = .ok (.iaload, 1) := by decide +kernel
theorem dX15_gap_82 : decode cX15_gap 82 = .ok (.bipush 10, 2) := by decide +kernel
theorem dX15_gap_84 : decode cX15_gap 84 = .ok (.if_icmp .eq 30, 3) := by decide +kernel
theorem dX15_gap_87 : decode cX15_gap 87 = .ok (.aload_n 0, 1) := by decide +kernel
theorem dX15_gap_88 : decode cX15_gap 88 = .ok (.dup, 1) := by decide +kernel
theorem dX15_gap_89 : decode cX15_gap 89 = .ok (.getfield 326, 3) := by decide +kernel
theorem dX15_gap_92 : decode cX15_gap 92 = .ok (.iconst 1, 1) := by decide +kernel
theorem dX15_gap_93 : decode cX15_gap 93 = .ok (.iadd, 1) := by decide +kernel
theorem dX15_gap_94 : decode cX15_gap 94 = .ok (.putfield 326, 3) := by decide +kernel
theorem dX15_gap_97 : decode cX15_gap 97 = .ok (.goto (-49), 3) := by decide +kernel
theorem dX15_gap_100 : decode cX15_gap 100 = .ok (.iload_n 1, 1) := by decide +kernel
theorem dX15_gap_101 : decode cX15_gap 101 = .ok (.ifCond .eq 13, 3) := by decide +kernel
theorem dX15_gap_104 : decode cX15_gap 104 = .ok (.aload_n 0, 1) := by decide +kernel
theorem dX15_gap_105 : decode cX15_gap 105 = .ok (.dup, 1) := by decide +kernel
theorem dX15_gap_106 : decode cX15_gap 106 = .ok (.getfield 326, 3) := by decide +kernel
theorem dX15_gap_109 : decode cX15_gap 109 = .ok (.iconst 1, 1) := by decide +kernel
theorem dX15_gap_110 : decode cX15_gap 110 = .ok (.iadd, 1) := by decide +kernel
theorem dX15_gap_111 : decode cX15_gap 111 = .ok (.putfield 326, 3) := by decide +kernel
theorem dX15_gap_114 : decode cX15_gap 114 = .ok (.goto (-112), 3) := by decide +kernel
theorem dX15_gap_117 : decode cX15_gap 117 = .ok (.return_, 1) := by decide +kernel
theorem dX15_look0_0 : decode cX15_look0 0 = .ok (.aload_n 0, 1) := by decide +kernel
theorem dX15_look0_1 : decode cX15_look0 1 = .ok (.getfield 326, 3) := by decide +kernel
theorem dX15_look0_4 : decode cX15_look0 4 = .ok (.iload_n 1, 1) := by decide +kernel
theorem dX15_look0_5 : decode cX15_look0 5 = .ok (.iadd, 1) := by decide +kernel
theorem dX15_look0_6 : decode cX15_look0 6 = .ok (.aload_n 0, 1) := by decide +kernel
theorem dX15_look0_7 : decode cX15_look0 7 = .ok (.getfield 320, 3) := by decide +kernel
theorem dX15_look0_10 : decode cX15_look0 10 = .ok (.if_icmp .ge 17, 3) := by decide +kernel
theorem dX15_look0_13 : decode cX15_look0 13 = .ok (.aload_n 0, 1) := by decide +kernel
theorem dX15_look0_14 : decode cX15_look0 14 = .ok (.getfield 13, 3) := by decide +kernel
theorem dX15_look0_17 : decode cX15_look0 17 = .ok (.aload_n 0, 1) := by decide +kernel
theorem dX15_look0_18 : decode cX15_look0 18 = .ok (.getfield 326, 3) := by decide +kernel
theorem dX15_look0_21 : decode cX15_look0 21 = .ok (.iload_n 1, 1) := by decide +kernel
theorem dX15_look0_22 : decode cX15_look0 22 = .ok (.iadd, 1) := by decide +kernel
theorem dX15_look0_23 : decode cX15_look0 23 = .ok (.iaload, 1) := by decide +kernel
theorem dX15_look0_24 : decode cX15_look0 24 = .ok (.goto 4, 3) := by decide +kernel
theorem dX15_look0_27 : decode cX15_look0 27 = .ok (.iconst (-1), 1) := by decide +kernel
theorem dX15_look0_28 : decode cX15_look0 28 = .ok (.ireturn, 1) := by decide +kernel
theorem dX15_fail_0 : decode cX15_fail 0 = .ok (.aload_n 0, 1) := by decide +kernel
theorem dX15_fail_1 : decode cX15_fail 1 = .ok (.getfield 323, 3) := by decide +kernel
theorem dX15_fail_4 : decode cX15_fail 4 = .ok (.ifCond .ne 13, 3) := by decide +kernel
theorem dX15_fail_7 : decode cX15_fail 7 = .ok (.aload_n 0, 1) := by decide +kernel
theorem dX15_fail_8 : decode cX15_fail 8 = .ok (.iload_n 1, 1) := by decide +kernel
theorem dX15_fail_9 : decode cX15_fail 9 = .ok (.putfield 323, 3) := by decide +kernel
theorem dX15_fail_12 : decode cX15_fail 12 = .ok (.aload_n 0, 1) := by decide +kernel
theorem dX15_fail_13 : decode cX15_fail 13 = .ok (.iload_n 2, 1) := by decide +kernel
theorem dX15_fail_14 : decode cX15_fail 14 = .ok (.putfield 313, 3) := by decide +kernel
theorem dX15_fail_17 : decode cX15_fail 17 = .ok (.return_, 1) := by decide +kernel
theorem dX15_isSign_0 : decode cX15_isSign 0 = .ok (.aload_n 0, 1) := by decide +kernel
theorem dX15_isSign_1 : decode cX15_isSign 1 = .ok (.iconst 0, 1) := by decide +kernel
theorem dX15_isSign_2 : decode cX15_isSign 2 = .ok (.invokevirtual 329, 3) := by decide +kernel
theorem dX15_isSign_5 : decode cX15_isSign 5 = .ok (.iload_n 1, 1) := by decide +kernel
theorem dX15_isSign_6 : decode cX15_isSign 6 = .ok (.if_icmp .ne 14, 3) := by decide +kernel
theorem dX15_isSign_9 : decode cX15_isSign 9 = .ok (.aload_n 0, 1) := by decide +kernel
theorem dX15_isSign_10 : decode cX15_isSign 10 = .ok (.invokevirtual 405, 3) := by decide +kernel
theorem dX15_isSign_13 : decode cX15_isSign 13 = .ok (.ifCond .ne 7, 3) := by decide +kernel
theorem dX15_isSign_16 : decode cX15_isSign 16 = .ok (.iconst 1, 1) := by decide +kernel
theorem dX15_isSign_17 : decode cX15_isSign 17 = .ok (.goto 4, 3) := by decide +kernel
theorem dX15_isSign_20 : decode cX15_isSign 20 = .ok (.iconst 0, 1) := by decide +kernel
theorem dX15_isSign_21 : decode cX15_isSign 21 = .ok (.ireturn, 1) := by decide +kernel
theorem dX15_isPair_0 : decode cX15_isPair 0 = .ok (.aload_n 0, 1) := by decide +kernel
theorem dX15_isPair_1 : decode cX15_isPair 1 = .ok (.iconst 0, 1) := by decide +kernel
theorem dX15_isPair_2 : decode cX15_isPair 2 = .ok (.invokevirtual 329, 3) := by decide +kernel
theorem dX15_isPair_5 : decode cX15_isPair 5 = .ok (.istore_n 1, 1) := by decide +kernel
theorem dX15_isPair_6 : decode cX15_isPair 6 = .ok (.aload_n 0, 1) := by decide +kernel
theorem dX15_isPair_7 : decode cX15_isPair 7 = .ok (.iconst 1, 1) := by decide +kernel
theorem dX15_isPair_8 : decode cX15_isPair 8 = .ok (.invokevirtual 329, 3) := by decide +kernel
theorem dX15_isPair_11 : decode cX15_isPair 11 = .ok (.istore_n 2, 1) := by decide +kernel
theorem dX15_isPair_12 : decode cX15_isPair 12 = .ok (.iload_n 1, 1) := by decide +kernel
theorem dX15_isPair_13 : decode cX15_isPair 13 = .ok (.bipush 124, 2) := by decide +kernel
theorem dX15_isPair_15 : decode cX15_isPair 15 = .ok (.if_icmp .ne 9, 3) := by decide +kernel
theorem dX15_isPair_18 : decode cX15_isPair 18 = .ok (.iload_n 2, 1) := by decide +kernel
theorem dX15_isPair_19 : decode cX15_isPair 19 = .ok (.bipush 124, 2) := by decide +kernel
theorem dX15_isPair_21 : decode cX15_isPair 21 = .ok (.if_icmp .eq 69, 3) := by decide +kernel
theorem dX15_isPair_24 : decode cX15_isPair 24 = .ok (.iload_n 1, 1) := by decide +kernel
theorem dX15_isPair_25 : decode cX15_isPair 25 = .ok (.bipush 38, 2) := by decide +kernel
theorem dX15_isPair_27 : decode cX15_isPair 27 = .ok (.if_icmp .ne 9, 3) := by decide +kernel
theorem dX15_isPair_30 : decode cX15_isPair 30 = .ok (.iload_n 2, 1) := by decide +kernel
theorem dX15_isPair_31 : decode cX15_isPair 31 = .ok (.bipush 38, 2) := by decide +kernel
theorem dX15_isPair_33 : decode cX15_isPair 33 = .ok (.if_icmp .eq 57, 3) := by decide +kernel
theorem dX15_isPair_36 : decode cX15_isPair 36 = .ok (.iload_n 1, 1) := by decide +kernel
theorem dX15_isPair_37 : decode cX15_isPair 37 = .ok (.bipush 61, 2) := by decide +kernel
theorem dX15_isPair_39 : decode cX15_isPair 39 = .ok (.if_icmp .eq 21, 3) := by decide +kernel
theorem dX15_isPair_42 : decode cX15_isPair 42 = .ok (.iload_n 1, 1) := by decide +kernel
theorem dX15_isPair_43 : decode cX15_isPair 43 = .ok (.bipush 33, 2) := by decide +kernel
theorem dX15_isPair_45 : decode cX15_isPair 45 = .ok (.if_icmp .eq 15, 3) := by decide +kernel
theorem dX15_isPair_48 : decode cX15_isPair 48 = .ok (.iload_n 1, 1) := by decide +kernel
theorem dX15_isPair_49 : decode cX15_isPair 49 = .ok (.bipush 60, 2) := by decide +kernel
theorem dX15_isPair_51 : decode cX15_isPair 51 = .ok (.if_icmp .eq 9, 3) := by decide +kernel
theorem dX15_isPair_54 : decode cX15_isPair 54 = .ok (.iload_n 1, 1) := by decide +kernel
theorem dX15_isPair_55 : decode cX15_isPair 55 = .ok (.bipush 62, 2) := by decide +kernel
theorem dX15_isPair_57 : decode cX15_isPair 57 = .ok (.if_icmp .ne 9, 3) := by decide +kernel
theorem dX15_isPair_60 : decode cX15_isPair 60 = .ok (.iload_n 2, 1) := by decide +kernel
theorem dX15_isPair_61 : decode cX15_isPair 61 = .ok (.bipush 61, 2) := by decide +kernel
theorem dX15_isPair_63 : decode cX15_isPair 63 = .ok (.if_icmp .eq 27, 3) := by decide +kernel
theorem dX15_isPair_66 : decode cX15_isPair 66 = .ok (.iload_n 1, 1) := by decide +kernel
theorem dX15_isPair_67 : decode cX15_isPair 67 = .ok (.bipush 60, 2) := by decide +kernel
theorem dX15_isPair_69 : decode cX15_isPair 69 = .ok (.if_icmp .ne 9, 3) := by decide +kernel
theorem dX15_isPair_72 : decode cX15_isPair 72 = .ok (.iload_n 2, 1) := by decide +kernel
theorem dX15_isPair_73 : decode cX15_isPair 73 = .ok (.bipush 60, 2) := by decide +kernel
theorem dX15_isPair_75 : decode cX15_isPair 75 = .ok (.if_icmp .eq 15, 3) := by decide +kernel
theorem dX15_isPair_78 : decode cX15_isPair 78 = .ok (.iload_n 1, 1) := by decide +kernel
theorem dX15_isPair_79 : decode cX15_isPair 79 = .ok (.bipush 62, 2) := by decide +kernel
theorem dX15_isPair_81 : decode cX15_isPair 81 = .ok (.if_icmp .ne 13, 3) := by decide +kernel
theorem dX15_isPair_84 : decode cX15_isPair 84 = .ok (.iload_n 2, 1) := by decide +kernel
theorem dX15_isPair_85 : decode cX15_isPair 85 = .ok (.bipush 62, 2) := by decide +kernel
theorem dX15_isPair_87 : decode cX15_isPair 87 = .ok (.if_icmp .ne 7, 3) := by decide +kernel
theorem dX15_isPair_90 : decode cX15_isPair 90 = .ok (.iconst 1, 1) := by decide +kernel
theorem dX15_isPair_91 : decode cX15_isPair 91 = .ok (.goto 4, 3) := by decide +kernel
theorem dX15_isPair_94 : decode cX15_isPair 94 = .ok (.iconst 0, 1) := by decide +kernel
theorem dX15_isPair_95 : decode cX15_isPair 95 = .ok (.ireturn, 1) := by decide +kernel
theorem dX15_closeBlock_0 : decode cX15_closeBlock 0 = .ok (.aload_n 0, 1) := by decide +kernel
theorem dX15_closeBlock_1 : decode cX15_closeBlock 1 = .ok (.dup, 1) := by decide +kernel
theorem dX15_closeBlock_2 : decode cX15_closeBlock 2 = .ok (.getfield 326, 3) := by decide +kernel
theorem dX15_closeBlock_5 : decode cX15_closeBlock 5 = .ok (.iconst 1, 1) := by decide +kernel
theorem dX15_closeBlock_6 : decode cX15_closeBlock 6 = .ok (.iadd, 1) := by decide +kernel
theorem dX15_closeBlock_7 : decode cX15_closeBlock 7 = .ok (.putfield 326, 3) := by decide +kernel
theorem dX15_closeBlock_10 : decode cX15_closeBlock 10 = .ok (.aload_n 0, 1) := by decide +kernel
theorem dX15_closeBlock_11 : decode cX15_closeBlock 11 = .ok (.dup, 1) := by decide +kernel
theorem dX15_closeBlock_12 : decode cX15_closeBlock 12 = .ok (.getfield 414, 3) := by decide +kernel
theorem dX15_closeBlock_15 : decode cX15_closeBlock 15 = .ok (.iconst 1, 1) := by decide +kernel
theorem dX15_closeBlock_16 : decode cX15_closeBlock 16 = .ok (.isub, 1) := by decide +kernel
theorem dX15_closeBlock_17 : decode cX15_closeBlock 17 = .ok (.putfield 414, 3) := by decide +kernel
theorem dX15_closeBlock_20 : decode cX15_closeBlock 20 = .ok (.aload_n 0, 1) := by decide +kernel
theorem dX15_closeBlock_21 : decode cX15_closeBlock 21 = .ok (.dup, 1) := by decide +kernel
theorem dX15_closeBlock_22 : decode cX15_closeBlock 22 = .ok (.getfield 501, 3) := by decide +kernel
theorem dX15_closeBlock_25 : decode cX15_closeBlock 25 = .ok (.iconst 1, 1) := by decide +kernel
theorem dX15_closeBlock_26 : decode cX15_closeBlock 26 = .ok (.isub, 1) := by decide +kernel
theorem dX15_closeBlock_27 : decode cX15_closeBlock 27 = .ok (.putfield 501, 3) := by decide +kernel
theorem dX15_closeBlock_30 : decode cX15_closeBlock 30 = .ok (.aload_n 0, 1) := by decide +kernel
theorem dX15_closeBlock_31 : decode cX15_closeBlock 31 = .ok (.getfield 50, 3) := by decide +kernel
theorem dX15_closeBlock_34 : decode cX15_closeBlock 34 = .ok (.aload_n 0, 1) := by decide +kernel
theorem dX15_closeBlock_35 : decode cX15_closeBlock 35 = .ok (.getfield 501, 3) := by decide +kernel
theorem dX15_closeBlock_38 : decode cX15_closeBlock 38 = .ok (.iaload, 1) := by decide +kernel
theorem dX15_closeBlock_39 : decode cX15_closeBlock 39 = .ok (.istore_n 1, 1) := by decide +kernel
theorem dX15_closeBlock_40 : decode cX15_closeBlock 40 = .ok (.aload_n 0, 1) := by decide +kernel
theorem dX15_closeBlock_41 : decode cX15_closeBlock 41 = .ok (.getfield 53, 3) := by decide +kernel
theorem dX15_closeBlock_44 : decode cX15_closeBlock 44 = .ok (.aload_n 0, 1) := by decide +kernel
theorem dX15_closeBlock_45 : decode cX15_closeBlock 45 = .ok (.getfield 501, 3) := by decide +kernel
theorem dX15_closeBlock_48 : decode cX15_closeBlock 48 = .ok (.iaload, 1) := by decide +kernel
theorem dX15_closeBlock_49 : decode cX15_closeBlock 49 = .ok (.istore_n 2, 1) := by decide +kernel
theorem dX15_closeBlock_50 : decode cX15_closeBlock 50 = .ok (.iload_n 1, 1) := by decide +kernel
theorem dX15_closeBlock_51 : decode cX15_closeBlock 51 = .ok (.iconst 3, 1) := by decide +kernel
theorem dX15_closeBlock_52 : decode cX15_closeBlock 52 = .ok (.if_icmp .ne 41, 3) := by decide +kernel
theorem dX15_closeBlock_55 : decode cX15_closeBlock 55 = .ok (.aload_n 0, 1) := by decide +kernel
theorem dX15_closeBlock_56 : decode cX15_closeBlock 56 = .ok (.bipush 40, 2) := by decide +kernel
theorem dX15_closeBlock_58 : decode cX15_closeBlock 58 = .ok (.iload_n 2, 1) := by decide +kernel
theorem dX15_closeBlock_59 : decode cX15_closeBlock 59 = .ok (.iconst 0, 1) := by decide +kernel
theorem dX15_closeBlock_60 : decode cX15_closeBlock 60 = .ok (.aload_n 0, 1) := by decide +kernel
theorem dX15_closeBlock_61 : decode cX15_closeBlock 61 = .ok (.getfield 31, 3) := by decide +kernel
theorem dX15_closeBlock_64 : decode cX15_closeBlock 64 = .ok (.iload_n 2, 1) := by decide +kernel
theorem dX15_closeBlock_65 : decode cX15_closeBlock 65 = .ok (.iaload, 1) := by decide +kernel
theorem dX15_closeBlock_66 : decode cX15_closeBlock 66 = .ok (.invokevirtual 423, 3) := by decide +kernel
theorem dX15_closeBlock_69 : decode cX15_closeBlock 69 = .ok (.istore_n 3, 1) := by decide +kernel
theorem dX15_closeBlock_70 : decode cX15_closeBlock 70 = .ok (.aload_n 0, 1) := by decide +kernel
theorem dX15_closeBlock_71 : decode cX15_closeBlock 71 = .ok (.getfield 28, 3) := by decide +kernel
theorem dX15_closeBlock_74 : decode cX15_closeBlock 74 = .ok (.iload_n 2, 1) := by decide +kernel
theorem dX15_closeBlock_75 : decode cX15_closeBlock 75 = .ok (.iload_n 3, 1) := by decide +kernel
theorem dX15_closeBlock_76 : decode cX15_closeBlock 76 = .ok (.iastore, 1) := by decide +kernel
theorem dX15_closeBlock_77 : decode cX15_closeBlock 77 = .ok (.aload_n 0, 1) := by decide +kernel
theorem dX15_closeBlock_78 : decode cX15_closeBlock 78 = .ok (.bipush 21, 2) := by decide +kernel
theorem dX15_closeBlock_80 : decode cX15_closeBlock 80 = .ok (.iconst 0, 1) := by decide +kernel
theorem dX15_closeBlock_81 : decode cX15_closeBlock 81 = .ok (.iconst 0, 1) := by decide +kernel
theorem dX15_closeBlock_82 : decode cX15_closeBlock 82 = .ok (.aload_n 0, 1) := by decide +kernel
theorem dX15_closeBlock_83 : decode cX15_closeBlock 83 = .ok (.getfield 31, 3) := by decide +kernel
theorem dX15_closeBlock_86 : decode cX15_closeBlock 86 = .ok (.iload_n 2, 1) := by decide +kernel
theorem dX15_closeBlock_87 : decode cX15_closeBlock 87 = .ok (.iaload, 1) := by decide +kernel
theorem dX15_closeBlock_88 : decode cX15_closeBlock 88 = .ok (.invokevirtual 423, 3) := by decide +kernel
theorem dX15_closeBlock_91 : decode cX15_closeBlock 91 = .ok (.istore_n 3, 1) := by decide +kernel
theorem dX15_closeBlock_92 : decode cX15_closeBlock 92 = .ok (.return_, 1) := by decide +kernel
theorem dX15_closeBlock_93 : decode cX15_closeBlock 93 = .ok (.iload_n 1, 1) := by decide +kernel
theorem dX15_closeBlock_94 : decode cX15_closeBlock 94 = .ok (.iconst 1, 1) := by decide +kernel
theorem dX15_closeBlock_95 : decode cX15_closeBlock 95 = .ok (.if_icmp .ne 120, 3) := by decide +kernel
theorem dX15_closeBlock_98 : decode cX15_closeBlock 98 = .ok (.aload_n 0, 1) := by decide +kernel
theorem dX15_closeBlock_99 : decode cX15_closeBlock 99 = .ok (.invokevirtual 383, 3) := by decide +kernel
theorem dX15_closeBlock_102 : decode cX15_closeBlock 102 = .ok (.aload_n 0, 1) := by decide +kernel
theorem dX15_closeBlock_103 : decode cX15_closeBlock 103 = .ok (.ldc_w 371, 3) := by decide +kernel
theorem dX15_closeBlock_106 : decode cX15_closeBlock 106 = .ok (.invokevirtual 355, 3) := by decide +kernel
theorem dX15_closeBlock_109 : decode cX15_closeBlock 109 = .ok (.ifCond .eq 106, 3) := by decide +kernel
theorem dX15_closeBlock_112 : decode cX15_closeBlock 112 = .ok (.aload_n 0, 1) := by decide +kernel
theorem dX15_closeBlock_113 : decode cX15_closeBlock 113 = .ok (.dup, 1) := by decide +kernel
theorem dX15_closeBlock_114 : decode cX15_closeBlock 114 = .ok (.getfield 326, 3) := by decide +kernel
theorem dX15_closeBlock_117 : decode cX15_closeBlock 117 = .ok (.iconst 4, 1) := by decide +kernel
theorem dX15_closeBlock_118 : decode cX15_closeBlock 118 = .ok (.iadd, 1) := by decide +kernel
theorem dX15_closeBlock_119 : decode cX15_closeBlock 119 = .ok (.putfield 326, 3) := by decide +kernel
theorem dX15_closeBlock_122 : decode cX15_closeBlock 122 = .ok (.aload_n 0, 1) := by decide +kernel
theorem dX15_closeBlock_123 : decode cX15_closeBlock 123 = .ok (.bipush 36, 2) := by decide +kernel
theorem dX15_closeBlock_125 : decode cX15_closeBlock 125 = .ok (.iload_n 2, 1) := by decide +kernel
theorem dX15_closeBlock_126 : decode cX15_closeBlock 126 = .ok (.iconst 0, 1) := by decide +kernel
theorem dX15_closeBlock_127 : decode cX15_closeBlock 127 = .ok (.aload_n 0, 1) := by decide +kernel
theorem dX15_closeBlock_128 : decode cX15_closeBlock 128 = .ok (.getfield 31, 3) := by decide +kernel
theorem dX15_closeBlock_131 : decode cX15_closeBlock 131 = .ok (.iload_n 2, 1) := by decide +kernel
theorem dX15_closeBlock_132 : decode cX15_closeBlock 132 = .ok (.iaload, 1) := by decide +kernel
theorem dX15_closeBlock_133 : decode cX15_closeBlock 133 = .ok (.invokevirtual 423, 3) := by decide +kernel
theorem dX15_closeBlock_136 : decode cX15_closeBlock 136 = .ok (.istore_n 3, 1) := by decide +kernel
theorem dX15_closeBlock_137 : decode cX15_closeBlock 137 = .ok (.aload_n 0, 1) := by decide +kernel
theorem dX15_closeBlock_138 : decode cX15_closeBlock 138 = .ok (.getfield 28, 3) := by decide +kernel
theorem dX15_closeBlock_141 : decode cX15_closeBlock 141 = .ok (.iload_n 2, 1) := by decide +kernel
theorem dX15_closeBlock_142 : decode cX15_closeBlock 142 = .ok (.iload_n 3, 1) := by decide +kernel
theorem dX15_closeBlock_143 : decode cX15_closeBlock 143 = .ok (.iastore, 1) := by decide +kernel
theorem dX15_closeBlock_144 : decode cX15_closeBlock 144 = .ok (.aload_n 0, 1) := by decide +kernel
theorem dX15_closeBlock_145 : decode cX15_closeBlock 145 = .ok (.invokevirtual 383, 3) := by decide +kernel
theorem dX15_closeBlock_148 : decode cX15_closeBlock 148 = .ok (.aload_n 0, 1) := by decide +kernel
theorem dX15_closeBlock_149 : decode cX15_closeBlock 149 = .ok (.ldc_w 369, 3) := by decide +kernel
theorem dX15_closeBlock_152 : decode cX15_closeBlock 152 = .ok (.invokevirtual 355, 3) := by decide +kernel
theorem dX15_closeBlock_155 : decode cX15_closeBlock 155 = .ok (.ifCond .eq 53, 3) := by decide +kernel
theorem dX15_closeBlock_158 : decode cX15_closeBlock 158 = .ok (.aload_n 0, 1) := by decide +kernel
theorem dX15_closeBlock_159 : decode cX15_closeBlock 159 = .ok (.aload_n 0, 1) := by decide +kernel
theorem dX15_closeBlock_160 : decode cX15_closeBlock 160 = .ok (.getfield 326, 3) := by decide +kernel
theorem dX15_closeBlock_163 : decode cX15_closeBlock 163 = .ok (.invokevirtual 430, 3) := by decide +kernel
theorem dX15_closeBlock_166 : decode cX15_closeBlock 166 = .ok (.aload_n 0, 1) := by decide +kernel
theorem dX15_closeBlock_167 : decode cX15_closeBlock 167 = .ok (.getfield 50, 3) := by decide +kernel
theorem dX15_closeBlock_170 : decode cX15_closeBlock 170 = .ok (.aload_n 0, 1) := by decide +kernel
theorem dX15_closeBlock_171 : decode cX15_closeBlock 171 = .ok (.getfield 501, 3) := by decide +kernel
theorem dX15_closeBlock_174 : decode cX15_closeBlock 174 = .ok (.bipush 12, 2) := by decide +kernel
theorem dX15_closeBlock_176 : decode cX15_closeBlock 176 = .ok (.iastore, 1) := by decide +kernel
theorem dX15_closeBlock_177 : decode cX15_closeBlock 177 = .ok (.aload_n 0, 1) := by decide +kernel
theorem dX15_closeBlock_178 : decode cX15_closeBlock 178 = .ok (.getfield 53, 3) := by decide +kernel
theorem dX15_closeBlock_181 : decode cX15_closeBlock 181 = .ok (.aload_n 0, 1) := by decide +kernel
theorem dX15_closeBlock_182 : decode cX15_closeBlock 182 = .ok (.getfield 501, 3) := by decide +kernel
theorem dX15_closeBlock_185 : decode cX15_closeBlock 185 = .ok (.iload_n 2, 1) := by decide +kernel
theorem dX15_closeBlock_186 : decode cX15_closeBlock 186 = .ok (.iastore, 1) := by decide +kernel
theorem dX15_closeBlock_187 : decode cX15_closeBlock 187 = .ok (.aload_n 0, 1) := by decide +kernel
theorem dX15_closeBlock_188 : decode cX15_closeBlock 188 = .ok (.dup, 1) := by decide +kernel
theorem dX15_closeBlock_189 : decode cX15_closeBlock 189 = .ok (.getfield 501, 3) := by decide +kernel
theorem dX15_closeBlock_192 : decode cX15_closeBlock 192 = .ok (.iconst 1, 1) := by decide +kernel
theorem dX15_closeBlock_193 : decode cX15_closeBlock 193 = .ok (.iadd, 1) := by decide +kernel
theorem dX15_closeBlock_194 : decode cX15_closeBlock 194 = .ok (.putfield 501, 3) := by decide +kernel
theorem dX15_closeBlock_197 : decode cX15_closeBlock 197 = .ok (.aload_n 0, 1) := by decide +kernel
theorem dX15_closeBlock_198 : decode cX15_closeBlock 198 = .ok (.aload_n 0, 1) := by decide +kernel
theorem dX15_closeBlock_199 : decode cX15_closeBlock 199 = .ok (.getfield 326, 3) := by decide +kernel
theorem dX15_closeBlock_202 : decode cX15_closeBlock 202 = .ok (.invokevirtual 507, 3) := by decide +kernel
theorem dX15_closeBlock_205 : decode cX15_closeBlock 205 = .ok (.goto 9, 3) := by decide +kernel
theorem dX15_closeBlock_208 : decode cX15_closeBlock 208 = .ok (.aload_n 0, 1) := by decide +kernel
theorem dX15_closeBlock_209 : decode cX15_closeBlock 209 = .ok (.iconst 2, 1) := by decide +kernel
theorem dX15_closeBlock_210 : decode cX15_closeBlock 210 = .ok (.iload_n 2, 1) := by decide +kernel
theorem dX15_closeBlock_211 : decode cX15_closeBlock 211 = .ok (.invokevirtual 504, 3) := by decide +kernel
theorem dX15_closeBlock_214 : decode cX15_closeBlock 214 = .ok (.return_, 1) := by decide +kernel
theorem dX15_closeBlock_215 : decode cX15_closeBlock 215 = .ok (.aload_n 0, 1) := by decide +kernel
theorem dX15_closeBlock_216 : decode cX15_closeBlock 216 = .ok (.iload_n 2, 1) := by decide +kernel
theorem dX15_closeBlock_217 : decode cX15_closeBlock 217 = .ok (.invokevirtual 510, 3) := by decide +kernel
theorem dX15_closeBlock_220 : decode cX15_closeBlock 220 = .ok (.aload_n 0, 1) := by decide +kernel
theorem dX15_closeBlock_221 : decode cX15_closeBlock 221 = .ok (.getfield 501, 3) := by decide +kernel
theorem dX15_closeBlock_224 : decode cX15_closeBlock 224 = .ok (.ifCond .le 55, 3) := by decide +kernel
theorem dX15_closeBlock_227 : decode cX15_closeBlock 227 = .ok (.aload_n 0, 1) := by decide +kernel
theorem dX15_closeBlock_228 : decode cX15_closeBlock 228 = .ok (.getfield 50, 3) := by decide +kernel
theorem dX15_closeBlock_231 : decode cX15_closeBlock 231 = .ok (.aload_n 0, 1) := by decide +kernel
theorem dX15_closeBlock_232 : decode cX15_closeBlock 232 = .ok (.getfield 501, 3) := by decide +kernel
theorem dX15_closeBlock_235 : decode cX15_closeBlock 235 = .ok (.iconst 1, 1) := by decide +kernel
theorem dX15_closeBlock_236 : decode cX15_closeBlock 236 = .ok (.isub, 1) := by decide +kernel
theorem dX15_closeBlock_237 : decode cX15_closeBlock 237 = .ok (.iaload, 1) := by decide +kernel
theorem dX15_closeBlock_238 : decode cX15_closeBlock 238 = .ok (.bipush 12, 2) := by decide +kernel
theorem dX15_closeBlock_240 : decode cX15_closeBlock 240 = .ok (.if_icmp .ne 39, 3) := by decide +kernel
theorem dX15_closeBlock_243 : decode cX15_closeBlock 243 = .ok (.aload_n 0, 1) := by decide +kernel
theorem dX15_closeBlock_244 : decode cX15_closeBlock 244 = .ok (.dup, 1) := by decide +kernel
theorem dX15_closeBlock_245 : decode cX15_closeBlock 245 = .ok (.getfield 501, 3) := by decide +kernel
theorem dX15_closeBlock_248 : decode cX15_closeBlock 248 = .ok (.iconst 1, 1) := by decide +kernel
theorem dX15_closeBlock_249 : decode cX15_closeBlock 249 = .ok (.isub, 1) := by decide +kernel
theorem dX15_closeBlock_250 : decode cX15_closeBlock 250 = .ok (.putfield 501, 3) := by decide +kernel
theorem dX15_closeBlock_253 : decode cX15_closeBlock 253 = .ok (.aload_n 0, 1) := by decide +kernel
theorem dX15_closeBlock_254 : decode cX15_closeBlock 254 = .ok (.dup, 1) := by decide +kernel
theorem dX15_closeBlock_255 : decode cX15_closeBlock 255 = .ok (.getfield 414, 3) := by decide +kernel
theorem dX15_closeBlock_258 : decode cX15_closeBlock 258 = .ok (.iconst 1, 1) := by decide +kernel
theorem dX15_closeBlock_259 : decode cX15_closeBlock 259 = .ok (.isub, 1) := by decide +kernel
theorem dX15_closeBlock_260 : decode cX15_closeBlock 260 = .ok (.putfield 414, 3) := by decide +kernel
theorem dX15_closeBlock_263 : decode cX15_closeBlock 263 = .ok (.aload_n 0, 1) := by decide +kernel
theorem dX15_closeBlock_264 : decode cX15_closeBlock 264 = .ok (.aload_n 0, 1) := by decide +kernel
theorem dX15_closeBlock_265 : decode cX15_closeBlock 265 = .ok (.getfield 53, 3) := by decide +kernel
theorem dX15_closeBlock_268 : decode cX15_closeBlock 268 = .ok (.aload_n 0, 1) := by decide +kernel
theorem dX15_closeBlock_269 : decode cX15_closeBlock 269 = .ok (.getfield 501, 3) := by decide +kernel
theorem dX15_closeBlock_272 : decode cX15_closeBlock 272 = .ok (.iaload, 1) := by decide +kernel
theorem dX15_closeBlock_273 : decode cX15_closeBlock 273 = .ok (.invokevirtual 510, 3) := by decide +kernel
theorem dX15_closeBlock_276 : decode cX15_closeBlock 276 = .ok (.goto (-56), 3) := by decide +kernel
theorem dX15_closeBlock_279 : decode cX15_closeBlock 279 = .ok (.return_, 1) := by decide +kernel
theorem dX15_put_0 : decode cX15_put 0 = .ok (.aload_n 0, 1) := by decide +kernel
theorem dX15_put_1 : decode cX15_put 1 = .ok (.getfield 411, 3) := by decide +kernel
theorem dX15_put_4 : decode cX15_put 4 = .ok (.sipush 12000, 3) := by decide +kernel
theorem dX15_put_7 : decode cX15_put 7 = .ok (.if_icmp .ne 10, 3) := by decide +kernel
theorem dX15_put_10 : decode cX15_put 10 = .ok (.aload_n 0, 1) := by decide +kernel
theorem dX15_put_11 : decode cX15_put 11 = .ok (.getfield 411, 3) := by decide +kernel
theorem dX15_put_14 : decode cX15_put 14 = .ok (.iconst 1, 1) := by decide +kernel
theorem dX15_put_15 : decode cX15_put 15 = .ok (.isub, 1) := by decide +kernel
theorem dX15_put_16 : decode cX15_put 16 = .ok (.ireturn, 1) := by decide +kernel
theorem dX15_put_17 : decode cX15_put 17 = .ok (.aload_n 0, 1) := by decide +kernel
theorem dX15_put_18 : decode cX15_put 18 = .ok (.getfield 22, 3) := by decide +kernel
theorem dX15_put_21 : decode cX15_put 21 = .ok (.aload_n 0, 1) := by decide +kernel
theorem dX15_put_22 : decode cX15_put 22 = .ok (.getfield 411, 3) := by decide +kernel
theorem dX15_put_25 : decode cX15_put 25 = .ok (.iload_n 1, 1) := by decide +kernel
theorem dX15_put_26 : decode cX15_put 26 = .ok (.iastore, 1) := by decide +kernel
theorem dX15_put_27 : decode cX15_put 27 = .ok (.aload_n 0, 1) := by decide +kernel
theorem dX15_put_28 : decode cX15_put 28 = .ok (.getfield 25, 3) := by decide +kernel
theorem dX15_put_31 : decode cX15_put 31 = .ok (.aload_n 0, 1) := by decide +kernel
theorem dX15_put_32 : decode cX15_put 32 = .ok (.getfield 411, 3) := by decide +kernel
theorem dX15_put_35 : decode cX15_put 35 = .ok (.iload_n 2, 1) := by decide +kernel
theorem dX15_put_36 : decode cX15_put 36 = .ok (.iastore, 1) := by decide +kernel
theorem dX15_put_37 : decode cX15_put 37 = .ok (.aload_n 0, 1) := by decide +kernel
theorem dX15_put_38 : decode cX15_put 38 = .ok (.getfield 28, 3) := by decide +kernel
theorem dX15_put_41 : decode cX15_put 41 = .ok (.aload_n 0, 1) := by decide +kernel
theorem dX15_put_42 : decode cX15_put 42 = .ok (.getfield 411, 3) := by decide +kernel
theorem dX15_put_45 : decode cX15_put 45 = .ok (.iload_n 3, 1) := by decide +kernel
theorem dX15_put_46 : decode cX15_put 46 = .ok (.iastore, 1) := by decide +kernel
theorem dX15_put_47 : decode cX15_put 47 = .ok (.aload_n 0, 1) := by decide +kernel
theorem dX15_put_48 : decode cX15_put 48 = .ok (.getfield 31, 3) := by decide +kernel
theorem dX15_put_51 : decode cX15_put 51 = .ok (.aload_n 0, 1) := by decide +kernel
theorem dX15_put_52 : decode cX15_put 52 = .ok (.getfield 411, 3) := by decide +kernel
theorem dX15_put_55 : decode cX15_put 55 = .ok (.iload 4, 2) := by decide +kernel
theorem dX15_put_57 : decode cX15_put 57 = .ok (.iastore, 1) := by decide +kernel
theorem dX15_put_58 : decode cX15_put 58 = .ok (.aload_n 0, 1) := by decide +kernel
theorem dX15_put_59 : decode cX15_put 59 = .ok (.dup, 1) := by decide +kernel
theorem dX15_put_60 : decode cX15_put 60 = .ok (.getfield 411, 3) := by decide +kernel
theorem dX15_put_63 : decode cX15_put 63 = .ok (.iconst 1, 1) := by decide +kernel
theorem dX15_put_64 : decode cX15_put 64 = .ok (.iadd, 1) := by decide +kernel
theorem dX15_put_65 : decode cX15_put 65 = .ok (.putfield 411, 3) := by decide +kernel
theorem dX15_put_68 : decode cX15_put 68 = .ok (.aload_n 0, 1) := by decide +kernel
theorem dX15_put_69 : decode cX15_put 69 = .ok (.getfield 411, 3) := by decide +kernel
theorem dX15_put_72 : decode cX15_put 72 = .ok (.iconst 1, 1) := by decide +kernel
theorem dX15_put_73 : decode cX15_put 73 = .ok (.isub, 1) := by decide +kernel
theorem dX15_put_74 : decode cX15_put 74 = .ok (.ireturn, 1) := by decide +kernel
theorem dX15_isWord_0 : decode cX15_isWord 0 = .ok (.aload_n 0, 1) := by decide +kernel
theorem dX15_isWord_1 : decode cX15_isWord 1 = .ok (.invokevirtual 340, 3) := by decide +kernel
theorem dX15_isWord_4 : decode cX15_isWord 4 = .ok (.istore_n 2, 1) := by decide +kernel
theorem dX15_isWord_5 : decode cX15_isWord 5 = .ok (.iload_n 2, 1) := by decide +kernel
theorem dX15_isWord_6 : decode cX15_isWord 6 = .ok (.aload_n 0, 1) := by decide +kernel
theorem dX15_isWord_7 : decode cX15_isWord 7 = .ok (.getfield 326, 3) := by decide +kernel
theorem dX15_isWord_10 : decode cX15_isWord 10 = .ok (.isub, 1) := by decide +kernel
theorem dX15_isWord_11 : decode cX15_isWord 11 = .ok (.aload_n 1, 1) := by decide +kernel
theorem dX15_isWord_12 : decode cX15_isWord 12 = .ok (.invokevirtual 344, 3) := by decide +kernel
theorem dX15_isWord_15 : decode cX15_isWord 15 = .ok (.if_icmp .ne 15, 3) := by decide +kernel
theorem dX15_isWord_18 : decode cX15_isWord 18 = .ok (.iload_n 2, 1) := by decide +kernel
theorem dX15_isWord_19 : decode cX15_isWord 19 = .ok (.aload_n 0, 1) := by decide +kernel
theorem dX15_isWord_20 : decode cX15_isWord 20 = .ok (.getfield 326, 3) := by decide +kernel
theorem dX15_isWord_23 : decode cX15_isWord 23 = .ok (.if_icmp .le 7, 3) := by decide +kernel
theorem dX15_isWord_26 : decode cX15_isWord 26 = .ok (.iconst 1, 1) := by decide +kernel
theorem dX15_isWord_27 : decode cX15_isWord 27 = .ok (.goto 4, 3) := by decide +kernel
theorem dX15_isWord_30 : decode cX15_isWord 30 = .ok (.iconst 0, 1) := by decide +kernel
theorem dX15_isWord_31 : decode cX15_isWord 31 = .ok (.istore_n 3, 1) := by decide +kernel
theorem dX15_isWord_32 : decode cX15_isWord 32 = .ok (.iconst 0, 1) := by decide +kernel
theorem dX15_isWord_33 : decode cX15_isWord 33 = .ok (.istore 4, 2) := by decide +kernel
theorem dX15_isWord_35 : decode cX15_isWord 35 = .ok (.iload_n 3, 1) := by decide +kernel
theorem dX15_isWord_36 : decode cX15_isWord 36 = .ok (.ifCond .eq 45, 3) := by decide +kernel
theorem dX15_isWord_39 : decode cX15_isWord 39 = .ok (.iload 4, 2) := by decide +kernel
theorem dX15_isWord_41 : decode cX15_isWord 41 = .ok (.aload_n 1, 1) := by decide +kernel
theorem dX15_isWord_42 : decode cX15_isWord 42 = .ok (.invokevirtual 344, 3) := by decide +kernel
theorem dX15_isWord_45 : decode cX15_isWord 45 = .ok (.if_icmp .ge 36, 3) := by decide +kernel
theorem dX15_isWord_48 : decode cX15_isWord 48 = .ok (.aload_n 0, 1) := by decide +kernel
theorem dX15_isWord_49 : decode cX15_isWord 49 = .ok (.getfield 13, 3) := by decide +kernel
theorem dX15_isWord_52 : decode cX15_isWord 52 = .ok (.aload_n 0, 1) := by decide +kernel
theorem dX15_isWord_53 : decode cX15_isWord 53 = .ok (.getfield 326, 3) := by decide +kernel
theorem dX15_isWord_56 : decode cX15_isWord 56 = .ok (.iload 4, 2) := by decide +kernel
theorem dX15_isWord_58 : decode cX15_isWord 58 = .ok (.iadd, 1) := by decide +kernel
theorem dX15_isWord_59 : decode cX15_isWord 59 = .ok (.iaload, 1) := by decide +kernel
theorem dX15_isWord_60 : decode cX15_isWord 60 = .ok (.aload_n 1, 1) := by decide +kernel
theorem dX15_isWord_61 : decode cX15_isWord 61 = .ok (.iload 4, 2) := by decide +kernel
theorem dX15_isWord_63 : decode cX15_isWord 63 = .ok (.invokevirtual 349, 3) := by decide +kernel
theorem dX15_isWord_66 : decode cX15_isWord 66 = .ok (.if_icmp .ne 7, 3) := by decide +kernel
theorem dX15_isWord_69 : decode cX15_isWord 69 = .ok (.iconst 1, 1) := by decide +kernel
theorem dX15_isWord_70 : decode cX15_isWord 70 = .ok (.goto 4, 3) := by decide +kernel
theorem dX15_isWord_73 : decode cX15_isWord 73 = .ok (.iconst 0, 1) := by decide +kernel
theorem dX15_isWord_74 : decode cX15_isWord 74 = .ok (.istore_n 3, 1) := by decide +kernel
theorem dX15_isWord_75 : decode cX15_isWord 75 = .ok (.iinc 4 1, 3) := by decide +kernel
theorem dX15_isWord_78 : decode cX15_isWord 78 = .ok (.goto (-43), 3) := by decide +kernel
theorem dX15_isWord_81 : decode cX15_isWord 81 = .ok (.iload_n 3, 1) := by decide +kernel
theorem dX15_isWord_82 : decode cX15_isWord 82 = .ok (.ireturn, 1) := by decide +kernel
theorem dX15_wordEnd_0 : decode cX15_wordEnd 0 = .ok (.aload_n 0, 1) := by decide +kernel
theorem dX15_wordEnd_1 : decode cX15_wordEnd 1 = .ok (.getfield 326, 3) := by decide +kernel
theorem dX15_wordEnd_4 : decode cX15_wordEnd 4 = .ok (.istore_n 1, 1) := by decide +kernel
theorem dX15_wordEnd_5 : decode cX15_wordEnd 5 = .ok (.aload_n 0, 1) := by decide +kernel
theorem dX15_wordEnd_6 : decode cX15_wordEnd 6 = .ok (.iconst 0, 1) := by decide +kernel
theorem dX15_wordEnd_7 : decode cX15_wordEnd 7 = .ok (.invokevirtual 329, 3) := by decide +kernel
theorem dX15_wordEnd_10 : decode cX15_wordEnd 10 = .ok (.invokestatic 333, 3) := by decide +kernel
theorem dX15_wordEnd_13 : decode cX15_wordEnd 13 = .ok (.ifCond .eq 63, 3) := by decide +kernel
theorem dX15_wordEnd_16 : decode cX15_wordEnd 16 = .ok (.iload_n 1, 1) := by decide +kernel
theorem dX15_wordEnd_17 : decode cX15_wordEnd 17 = .ok (.aload_n 0, 1) := by decide +kernel
theorem dX15_wordEnd_18 : decode cX15_wordEnd 18 = .ok (.getfield 320, 3) := by decide +kernel
theorem dX15_wordEnd_21 : decode cX15_wordEnd 21 = .ok (.if_icmp .ge 55, 3) := by decide +kernel
theorem dX15_wordEnd_24 : decode cX15_wordEnd 24 = .ok (.aload_n 0, 1) := by decide +kernel
theorem dX15_wordEnd_25 : decode cX15_wordEnd 25 = .ok (.getfield 13, 3) := by decide +kernel
theorem dX15_wordEnd_28 : decode cX15_wordEnd 28 = .ok (.iload_n 1, 1) := by decide +kernel
theorem dX15_wordEnd_29 : decode cX15_wordEnd 29 = .ok (.sipush 4000, 3) := by decide +kernel
theorem dX15_wordEnd_32 : decode cX15_wordEnd 32 = .ok (.if_icmp .ge 7, 3) := by decide +kernel
theorem dX15_wordEnd_35 : decode cX15_wordEnd 35 = .ok (.iload_n 1, 1) := by decide +kernel
theorem dX15_wordEnd_36 : decode cX15_wordEnd 36 = .ok (.goto 4, 3) := by decide +kernel
theorem dX15_wordEnd_39 : decode cX15_wordEnd 39 = .ok (.iconst 0, 1) := by decide +kernel
theorem dX15_wordEnd_40 : decode cX15_wordEnd 40 = .ok (.iaload, 1) := by decide +kernel
theorem dX15_wordEnd_41 : decode cX15_wordEnd 41 = .ok (.invokestatic 333, 3) := by decide +kernel
theorem dX15_wordEnd_44 : decode cX15_wordEnd 44 = .ok (.ifCond .ne 26, 3) := by decide +kernel
theorem dX15_wordEnd_47 : decode cX15_wordEnd 47 = .ok (.aload_n 0, 1) := by decide +kernel
theorem dX15_wordEnd_48 : decode cX15_wordEnd 48 = .ok (.getfield 13, 3) := by decide +kernel
theorem dX15_wordEnd_51 : decode cX15_wordEnd 51 = .ok (.iload_n 1, 1) := by decide +kernel
theorem dX15_wordEnd_52 : decode cX15_wordEnd 52 = .ok (.sipush 4000, 3) := by decide +kernel
theorem dX15_wordEnd_55 : decode cX15_wordEnd 55 = .ok (.if_icmp .ge 7, 3) := by decide +kernel
theorem dX15_wordEnd_58 : decode cX15_wordEnd 58 = .ok (.iload_n 1, 1) := by decide +kernel
theorem dX15_wordEnd_59 : decode cX15_wordEnd 59 = .ok (.goto 4, 3) := by decide +kernel
theorem dX15_wordEnd_62 : decode cX15_wordEnd 62 = .ok (.iconst 0, 1) := by decide +kernel
theorem dX15_wordEnd_63 : decode cX15_wordEnd 63 = .ok (.iaload, 1) := by decide +kernel
theorem dX15_wordEnd_64 : decode cX15_wordEnd 64 = .ok (.invokestatic 337, 3) := by decide +kernel
theorem dX15_wordEnd_67 : decode cX15_wordEnd 67 = .ok (.ifCond .eq 9, 3) := by decide +kernel
theorem dX15_wordEnd_70 : decode cX15_wordEnd 70 = .ok (.iinc 1 1, 3) := by decide +kernel
theorem dX15_wordEnd_73 : decode cX15_wordEnd 73 = .ok (.goto (-57), 3) := by decide +kernel
theorem dX15_wordEnd_76 : decode cX15_wordEnd 76 = .ok (.iload_n 1, 1) := by decide +kernel
theorem dX15_wordEnd_77 : decode cX15_wordEnd 77 = .ok (.ireturn, 1) := by decide +kernel
theorem dX15_isLetter_0 : decode cX15_isLetter 0 = .ok (.iload_n 0, 1) := by decide +kernel
theorem dX15_isLetter_1 : decode cX15_isLetter 1 = .ok (.bipush 97, 2) := by decide +kernel
theorem dX15_isLetter_3 : decode cX15_isLetter 3 = .ok (.if_icmp .lt 9, 3) := by decide +kernel
theorem dX15_isLetter_6 : decode cX15_isLetter 6 = .ok (.iload_n 0, 1) := by decide +kernel
theorem dX15_isLetter_7 : decode cX15_isLetter 7 = .ok (.bipush 122, 2) := by decide +kernel
theorem dX15_isLetter_9 : decode cX15_isLetter 9 = .ok (.if_icmp .le 21, 3) := by decide +kernel
theorem dX15_isLetter_12 : decode cX15_isLetter 12 = .ok (.iload_n 0, 1) := by decide +kernel
theorem dX15_isLetter_13 : decode cX15_isLetter 13 = .ok (.bipush 65, 2) := by decide +kernel
theorem dX15_isLetter_15 : decode cX15_isLetter 15 = .ok (.if_icmp .lt 9, 3) := by decide +kernel
theorem dX15_isLetter_18 : decode cX15_isLetter 18 = .ok (.iload_n 0, 1) := by decide +kernel
theorem dX15_isLetter_19 : decode cX15_isLetter 19 = .ok (.bipush 90, 2) := by decide +kernel
theorem dX15_isLetter_21 : decode cX15_isLetter 21 = .ok (.if_icmp .le 9, 3) := by decide +kernel
theorem dX15_isLetter_24 : decode cX15_isLetter 24 = .ok (.iload_n 0, 1) := by decide +kernel
theorem dX15_isLetter_25 : decode cX15_isLetter 25 = .ok (.bipush 95, 2) := by decide +kernel
theorem dX15_isLetter_27 : decode cX15_isLetter 27 = .ok (.if_icmp .ne 7, 3) := by decide +kernel
theorem dX15_isLetter_30 : decode cX15_isLetter 30 = .ok (.iconst 1, 1) := by decide +kernel
theorem dX15_isLetter_31 : decode cX15_isLetter 31 = .ok (.goto 4, 3) := by decide +kernel
theorem dX15_isLetter_34 : decode cX15_isLetter 34 = .ok (.iconst 0, 1) := by decide +kernel
theorem dX15_isLetter_35 : decode cX15_isLetter 35 = .ok (.ireturn, 1) := by decide +kernel
theorem dX15_isDigit_0 : decode cX15_isDigit 0 = .ok (.iload_n 0, 1) := by decide +kernel
theorem dX15_isDigit_1 : decode cX15_isDigit 1 = .ok (.bipush 48, 2) := by decide +kernel
theorem dX15_isDigit_3 : decode cX15_isDigit 3 = .ok (.if_icmp .lt 13, 3) := by decide +kernel
theorem dX15_isDigit_6 : decode cX15_isDigit 6 = .ok (.iload_n 0, 1) := by decide +kernel
theorem dX15_isDigit_7 : decode cX15_isDigit 7 = .ok (.bipush 57, 2) := by decide +kernel
theorem dX15_isDigit_9 : decode cX15_isDigit 9 = .ok (.if_icmp .gt 7, 3) := by decide +kernel
theorem dX15_isDigit_12 : decode cX15_isDigit 12 = .ok (.iconst 1, 1) := by decide +kernel
theorem dX15_isDigit_13 : decode cX15_isDigit 13 = .ok (.goto 4, 3) := by decide +kernel
theorem dX15_isDigit_16 : decode cX15_isDigit 16 = .ok (.iconst 0, 1) := by decide +kernel
theorem dX15_isDigit_17 : decode cX15_isDigit 17 = .ok (.ireturn, 1) := by decide +kernel
theorem dX15_deeper_0 : decode cX15_deeper 0 = .ok (.aload_n 0, 1) := by decide +kernel
theorem dX15_deeper_1 : decode cX15_deeper 1 = .ok (.getfield 414, 3) := by decide +kernel
theorem dX15_deeper_4 : decode cX15_deeper 4 = .ok (.bipush 30, 2) := by decide +kernel
theorem dX15_deeper_6 : decode cX15_deeper 6 = .ok (.if_icmp .ne 9, 3) := by decide +kernel
theorem dX15_deeper_9 : decode cX15_deeper 9 = .ok (.aload_n 0, 1) := by decide +kernel
theorem dX15_deeper_10 : decode cX15_deeper 10 = .ok (.iconst 3, 1) := by decide +kernel
theorem dX15_deeper_11 : decode cX15_deeper 11 = .ok (.iload_n 1, 1) := by decide +kernel
theorem dX15_deeper_12 : decode cX15_deeper 12 = .ok (.invokevirtual 390, 3) := by decide +kernel
theorem dX15_deeper_15 : decode cX15_deeper 15 = .ok (.aload_n 0, 1) := by decide +kernel
theorem dX15_deeper_16 : decode cX15_deeper 16 = .ok (.dup, 1) := by decide +kernel
theorem dX15_deeper_17 : decode cX15_deeper 17 = .ok (.getfield 414, 3) := by decide +kernel
theorem dX15_deeper_20 : decode cX15_deeper 20 = .ok (.iconst 1, 1) := by decide +kernel
theorem dX15_deeper_21 : decode cX15_deeper 21 = .ok (.iadd, 1) := by decide +kernel
theorem dX15_deeper_22 : decode cX15_deeper 22 = .ok (.putfield 414, 3) := by decide +kernel
theorem dX15_deeper_25 : decode cX15_deeper 25 = .ok (.return_, 1) := by decide +kernel
theorem dX15_ifStatement_0 : decode cX15_ifStatement 0 = .ok (.aload_n 0, 1) := by decide +kernel
theorem dX15_ifStatement_1 : decode cX15_ifStatement 1 = .ok (.bipush 20, 2) := by decide +kernel
theorem dX15_ifStatement_3 : decode cX15_ifStatement 3 = .ok (.iconst 0, 1) := by decide +kernel
theorem dX15_ifStatement_4 : decode cX15_ifStatement 4 = .ok (.iconst 0, 1) := by decide +kernel
theorem dX15_ifStatement_5 : decode cX15_ifStatement 5 = .ok (.iload_n 1, 1) := by decide +kernel
theorem dX15_ifStatement_6 : decode cX15_ifStatement 6 = .ok (.invokevirtual 423, 3) := by decide +kernel
theorem dX15_ifStatement_9 : decode cX15_ifStatement 9 = .ok (.istore_n 2, 1) := by decide +kernel
theorem dX15_ifStatement_10 : decode cX15_ifStatement 10 = .ok (.aload_n 0, 1) := by decide +kernel
theorem dX15_ifStatement_11 : decode cX15_ifStatement 11 = .ok (.dup, 1) := by decide +kernel
theorem dX15_ifStatement_12 : decode cX15_ifStatement 12 = .ok (.getfield 326, 3) := by decide +kernel
theorem dX15_ifStatement_15 : decode cX15_ifStatement 15 = .ok (.iconst 2, 1) := by decide +kernel
theorem dX15_ifStatement_16 : decode cX15_ifStatement 16 = .ok (.iadd, 1) := by decide +kernel
theorem dX15_ifStatement_17 : decode cX15_ifStatement 17 = .ok (.putfield 326, 3) := by decide +kernel
theorem dX15_ifStatement_20 : decode cX15_ifStatement 20 = .ok (.aload_n 0, 1) := by decide +kernel
theorem dX15_ifStatement_21 : decode cX15_ifStatement 21 = .ok (.invokevirtual 383, 3) := by decide +kernel
theorem dX15_ifStatement_24 : decode cX15_ifStatement 24 = .ok (.aload_n 0, 1) := by decide +kernel
theorem dX15_ifStatement_25 : decode cX15_ifStatement 25 = .ok (.getfield 326, 3) := by decide +kernel
theorem dX15_ifStatement_28 : decode cX15_ifStatement 28 = .ok (.istore_n 3, 1) := by decide +kernel
theorem dX15_ifStatement_29 : decode cX15_ifStatement 29 = .ok (.aload_n 0, 1) := by decide +kernel
theorem dX15_ifStatement_30 : decode cX15_ifStatement 30 = .ok (.bipush 40, 2) := by decide +kernel
theorem dX15_ifStatement_32 : decode cX15_ifStatement 32 = .ok (.invokevirtual 442, 3) := by decide +kernel
theorem dX15_ifStatement_35 : decode cX15_ifStatement 35 = .ok (.aload_n 0, 1) := by decide +kernel
theorem dX15_ifStatement_36 : decode cX15_ifStatement 36 = .ok (.getfield 323, 3) := by decide +kernel
theorem dX15_ifStatement_39 : decode cX15_ifStatement 39 = .ok (.ifCond .ne 8, 3) := by decide +kernel
theorem dX15_ifStatement_42 : decode cX15_ifStatement 42 = .ok (.aload_n 0, 1) := by decide +kernel
theorem dX15_ifStatement_43 : decode cX15_ifStatement 43 = .ok (.iload_n 3, 1) := by decide +kernel
theorem dX15_ifStatement_44 : decode cX15_ifStatement 44 = .ok (.invokevirtual 430, 3) := by decide +kernel
theorem dX15_ifStatement_47 : decode cX15_ifStatement 47 = .ok (.aload_n 0, 1) := by decide +kernel
theorem dX15_ifStatement_48 : decode cX15_ifStatement 48 = .ok (.getfield 323, 3) := by decide +kernel
theorem dX15_ifStatement_51 : decode cX15_ifStatement 51 = .ok (.ifCond .ne 7, 3) := by decide +kernel
theorem dX15_ifStatement_54 : decode cX15_ifStatement 54 = .ok (.aload_n 0, 1) := by decide +kernel
theorem dX15_ifStatement_55 : decode cX15_ifStatement 55 = .ok (.invokevirtual 496, 3) := by decide +kernel
theorem dX15_ifStatement_58 : decode cX15_ifStatement 58 = .ok (.aload_n 0, 1) := by decide +kernel
theorem dX15_ifStatement_59 : decode cX15_ifStatement 59 = .ok (.getfield 323, 3) := by decide +kernel
theorem dX15_ifStatement_62 : decode cX15_ifStatement 62 = .ok (.ifCond .ne 19, 3) := by decide +kernel
theorem dX15_ifStatement_65 : decode cX15_ifStatement 65 = .ok (.aload_n 0, 1) := by decide +kernel
theorem dX15_ifStatement_66 : decode cX15_ifStatement 66 = .ok (.bipush 41, 2) := by decide +kernel
theorem dX15_ifStatement_68 : decode cX15_ifStatement 68 = .ok (.invokevirtual 442, 3) := by decide +kernel
theorem dX15_ifStatement_71 : decode cX15_ifStatement 71 = .ok (.aload_n 0, 1) := by decide +kernel
theorem dX15_ifStatement_72 : decode cX15_ifStatement 72 = .ok (.dup, 1) := by decide +kernel
theorem dX15_ifStatement_73 : decode cX15_ifStatement 73 = .ok (.getfield 414, 3) := by decide +kernel
theorem dX15_ifStatement_76 : decode cX15_ifStatement 76 = .ok (.iconst 1, 1) := by decide +kernel
theorem dX15_ifStatement_77 : decode cX15_ifStatement 77 = .ok (.isub, 1) := by decide +kernel
theorem dX15_ifStatement_78 : decode cX15_ifStatement 78 = .ok (.putfield 414, 3) := by decide +kernel
theorem dX15_ifStatement_81 : decode cX15_ifStatement 81 = .ok (.aload_n 0, 1) := by decide +kernel
theorem dX15_ifStatement_82 : decode cX15_ifStatement 82 = .ok (.getfield 323, 3) := by decide +kernel
theorem dX15_ifStatement_85 : decode cX15_ifStatement 85 = .ok (.ifCond .ne 17, 3) := by decide +kernel
theorem dX15_ifStatement_88 : decode cX15_ifStatement 88 = .ok (.aload_n 0, 1) := by decide +kernel
theorem dX15_ifStatement_89 : decode cX15_ifStatement 89 = .ok (.iconst 1, 1) := by decide +kernel
theorem dX15_ifStatement_90 : decode cX15_ifStatement 90 = .ok (.aload_n 0, 1) := by decide +kernel
theorem dX15_ifStatement_91 : decode cX15_ifStatement 91 = .ok (.bipush 35, 2) := by decide +kernel
theorem dX15_ifStatement_93 : decode cX15_ifStatement 93 = .ok (.iconst 0, 1) := by decide +kernel
theorem dX15_ifStatement_94 : decode cX15_ifStatement 94 = .ok (.iconst 0, 1) := by decide +kernel
theorem dX15_ifStatement_95 : decode cX15_ifStatement 95 = .ok (.iload_n 1, 1) := by decide +kernel
theorem dX15_ifStatement_96 : decode cX15_ifStatement 96 = .ok (.invokevirtual 423, 3) := by decide +kernel
theorem dX15_ifStatement_99 : decode cX15_ifStatement 99 = .ok (.invokevirtual 504, 3) := by decide +kernel
theorem dX15_ifStatement_102 : decode cX15_ifStatement 102 = .ok (.return_, 1) := by decide +kernel
theorem dX15_sign_0 : decode cX15_sign 0 = .ok (.aload_n 0, 1) := by decide +kernel
theorem dX15_sign_1 : decode cX15_sign 1 = .ok (.invokevirtual 383, 3) := by decide +kernel
theorem dX15_sign_4 : decode cX15_sign 4 = .ok (.aload_n 0, 1) := by decide +kernel
theorem dX15_sign_5 : decode cX15_sign 5 = .ok (.iload_n 1, 1) := by decide +kernel
theorem dX15_sign_6 : decode cX15_sign 6 = .ok (.invokevirtual 408, 3) := by decide +kernel
theorem dX15_sign_9 : decode cX15_sign 9 = .ok (.ifCond .ne 13, 3) := by decide +kernel
theorem dX15_sign_12 : decode cX15_sign 12 = .ok (.aload_n 0, 1) := by decide +kernel
theorem dX15_sign_13 : decode cX15_sign 13 = .ok (.iconst 1, 1) := by decide +kernel
theorem dX15_sign_14 : decode cX15_sign 14 = .ok (.aload_n 0, 1) := by decide +kernel
theorem dX15_sign_15 : decode cX15_sign 15 = .ok (.getfield 326, 3) := by decide +kernel
theorem dX15_sign_18 : decode cX15_sign 18 = .ok (.invokevirtual 390, 3) := by decide +kernel
theorem dX15_sign_21 : decode cX15_sign 21 = .ok (.return_, 1) := by decide +kernel
theorem dX15_sign_22 : decode cX15_sign 22 = .ok (.aload_n 0, 1) := by decide +kernel
theorem dX15_sign_23 : decode cX15_sign 23 = .ok (.dup, 1) := by decide +kernel
theorem dX15_sign_24 : decode cX15_sign 24 = .ok (.getfield 326, 3) := by decide +kernel
theorem dX15_sign_27 : decode cX15_sign 27 = .ok (.iconst 1, 1) := by decide +kernel
theorem dX15_sign_28 : decode cX15_sign 28 = .ok (.iadd, 1) := by decide +kernel
theorem dX15_sign_29 : decode cX15_sign 29 = .ok (.putfield 326, 3) := by decide +kernel
theorem dX15_sign_32 : decode cX15_sign 32 = .ok (.return_, 1) := by decide +kernel
theorem dX15_expression_0 : decode cX15_expression 0 = .ok (.aload_n 0, 1) := by decide +kernel
theorem dX15_expression_1 : decode cX15_expression 1 = .ok (.getfield 417, 3) := by decide +kernel
theorem dX15_expression_4 : decode cX15_expression 4 = .ok (.istore_n 1, 1) := by decide +kernel
theorem dX15_expression_5 : decode cX15_expression 5 = .ok (.iconst 1, 1) := by decide +kernel
theorem dX15_expression_6 : decode cX15_expression 6 = .ok (.istore_n 2, 1) := by decide +kernel
theorem dX15_expression_7 : decode cX15_expression 7 = .ok (.iconst 0, 1) := by decide +kernel
theorem dX15_expression_8 : decode cX15_expression 8 = .ok (.istore_n 3, 1) := by decide +kernel
theorem dX15_expression_9 : decode cX15_expression 9 = .ok (.aload_n 0, 1) := by decide +kernel
theorem dX15_expression_10 : decode cX15_expression 10 = .ok (.getfield 323, 3) := by decide +kernel
theorem dX15_expression_13 : decode cX15_expression 13 = .ok (.ifCond .ne 246, 3) := by decide +kernel
theorem dX15_expression_16 : decode cX15_expression 16 = .ok (.iload_n 3, 1) := by decide +kernel
theorem dX15_expression_17 : decode cX15_expression 17 = .ok (.ifCond .ne 242, 3) := by decide +kernel
theorem dX15_expression_20 : decode cX15_expression 20 = .ok (.iload_n 2, 1) := by decide +kernel
theorem dX15_expression_21 : decode cX15_expression 21 = .ok (.ifCond .eq 75, 3) := by decide +kernel
theorem dX15_expression_24 : decode cX15_expression 24 = .ok (.aload_n 0, 1) := by decide +kernel
theorem dX15_expression_25 : decode cX15_expression 25 = .ok (.getfield 417, 3) := by decide +kernel
theorem dX15_expression_28 : decode cX15_expression 28 = .ok (.istore 4, 2) := by decide +kernel
theorem dX15_expression_30 : decode cX15_expression 30 = .ok (.aload_n 0, 1) := by decide +kernel
theorem dX15_expression_31 : decode cX15_expression 31 = .ok (.invokevirtual 448, 3) := by decide +kernel
theorem dX15_expression_34 : decode cX15_expression 34 = .ok (.ifCond .ne 7, 3) := by decide +kernel
theorem dX15_expression_37 : decode cX15_expression 37 = .ok (.iconst 1, 1) := by decide +kernel
theorem dX15_expression_38 : decode cX15_expression 38 = .ok (.goto 4, 3) := by decide +kernel
theorem dX15_expression_41 : decode cX15_expression 41 = .ok (.iconst 0, 1) := by decide +kernel
theorem dX15_expression_42 : decode cX15_expression 42 = .ok (.istore_n 2, 1) := by decide +kernel
theorem dX15_expression_43 : decode cX15_expression 43 = .ok (.iload_n 2, 1) := by decide +kernel
theorem dX15_expression_44 : decode cX15_expression 44 = .ok (.ifCond .ne 32, 3) := by decide +kernel
theorem dX15_expression_47 : decode cX15_expression 47 = .ok (.aload_n 0, 1) := by decide +kernel
theorem dX15_expression_48 : decode cX15_expression 48 = .ok (.getfield 417, 3) := by decide +kernel
theorem dX15_expression_51 : decode cX15_expression 51 = .ok (.iload 4, 2) := by decide +kernel
theorem dX15_expression_53 : decode cX15_expression 53 = .ok (.if_icmp .le 23, 3) := by decide +kernel
theorem dX15_expression_56 : decode cX15_expression 56 = .ok (.aload_n 0, 1) := by decide +kernel
theorem dX15_expression_57 : decode cX15_expression 57 = .ok (.getfield 38, 3) := by decide +kernel
theorem dX15_expression_60 : decode cX15_expression 60 = .ok (.aload_n 0, 1) := by decide +kernel
theorem dX15_expression_61 : decode cX15_expression 61 = .ok (.getfield 417, 3) := by decide +kernel
theorem dX15_expression_64 : decode cX15_expression 64 = .ok (.iconst 1, 1) := by decide +kernel
theorem dX15_expression_65 : decode cX15_expression 65 = .ok (.isub, 1) := by decide +kernel
theorem dX15_expression_66 : decode cX15_expression 66 = .ok (.iaload, 1) := by decide +kernel
theorem dX15_expression_67 : decode cX15_expression 67 = .ok (.bipush 7, 2) := by decide +kernel
theorem dX15_expression_69 : decode cX15_expression 69 = .ok (.if_icmp .ne 7, 3) := by decide +kernel
theorem dX15_expression_72 : decode cX15_expression 72 = .ok (.iconst 1, 1) := by decide +kernel
theorem dX15_expression_73 : decode cX15_expression 73 = .ok (.goto 4, 3) := by decide +kernel
theorem dX15_expression_76 : decode cX15_expression 76 = .ok (.iconst 0, 1) := by decide +kernel
theorem dX15_expression_77 : decode cX15_expression 77 = .ok (.istore 5, 2) := by decide +kernel
theorem dX15_expression_79 : decode cX15_expression 79 = .ok (.iload_n 2, 1) := by decide +kernel
theorem dX15_expression_80 : decode cX15_expression 80 = .ok (.ifCond .ne (-71), 3) := by decide +kernel
theorem dX15_expression_83 : decode cX15_expression 83 = .ok (.iload 5, 2) := by decide +kernel
theorem dX15_expression_85 : decode cX15_expression 85 = .ok (.ifCond .ne (-76), 3) := by decide +kernel
theorem dX15_expression_88 : decode cX15_expression 88 = .ok (.aload_n 0, 1) := by decide +kernel
theorem dX15_expression_89 : decode cX15_expression 89 = .ok (.iload_n 1, 1) := by decide +kernel
theorem dX15_expression_90 : decode cX15_expression 90 = .ok (.invokevirtual 451, 3) := by decide +kernel
theorem dX15_expression_93 : decode cX15_expression 93 = .ok (.goto (-84), 3) := by decide +kernel
theorem dX15_expression_96 : decode cX15_expression 96 = .ok (.aload_n 0, 1) := by decide +kernel
theorem dX15_expression_97 : decode cX15_expression 97 = .ok (.invokevirtual 383, 3) := by decide +kernel
theorem dX15_expression_100 : decode cX15_expression 100 = .ok (.aload_n 0, 1) := by decide +kernel
theorem dX15_expression_101 : decode cX15_expression 101 = .ok (.invokevirtual 454, 3) := by decide +kernel
theorem dX15_expression_104 : decode cX15_expression 104 = .ok (.istore 4, 2) := by decide +kernel
theorem dX15_expression_106 : decode cX15_expression 106 = .ok (.iload 4, 2) := by decide +kernel
theorem dX15_expression_108 : decode cX15_expression 108 = .ok (.ifCond .le 81, 3) := by decide +kernel
theorem dX15_expression_111 : decode cX15_expression 111 = .ok (.aload_n 0, 1) := by decide +kernel
theorem dX15_expression_112 : decode cX15_expression 112 = .ok (.getfield 417, 3) := by decide +kernel
theorem dX15_expression_115 : decode cX15_expression 115 = .ok (.iload_n 1, 1) := by decide +kernel
theorem dX15_expression_116 : decode cX15_expression 116 = .ok (.if_icmp .le 26, 3) := by decide +kernel
theorem dX15_expression_119 : decode cX15_expression 119 = .ok (.aload_n 0, 1) := by decide +kernel
theorem dX15_expression_120 : decode cX15_expression 120 = .ok (.getfield 38, 3) := by decide +kernel
theorem dX15_expression_123 : decode cX15_expression 123 = .ok (.aload_n 0, 1) := by decide +kernel
theorem dX15_expression_124 : decode cX15_expression 124 = .ok (.getfield 417, 3) := by decide +kernel
theorem dX15_expression_127 : decode cX15_expression 127 = .ok (.iconst 1, 1) := by decide +kernel
theorem dX15_expression_128 : decode cX15_expression 128 = .ok (.isub, 1) := by decide +kernel
theorem dX15_expression_129 : decode cX15_expression 129 = .ok (.iaload, 1) := by decide +kernel
theorem dX15_expression_130 : decode cX15_expression 130 = .ok (.bipush 7, 2) := by decide +kernel
theorem dX15_expression_132 : decode cX15_expression 132 = .ok (.if_icmp .ne 10, 3) := by decide +kernel
theorem dX15_expression_135 : decode cX15_expression 135 = .ok (.aload_n 0, 1) := by decide +kernel
theorem dX15_expression_136 : decode cX15_expression 136 = .ok (.invokevirtual 457, 3) := by decide +kernel
theorem dX15_expression_139 : decode cX15_expression 139 = .ok (.ifCond .ne 50, 3) := by decide +kernel
theorem dX15_expression_142 : decode cX15_expression 142 = .ok (.aload_n 0, 1) := by decide +kernel
theorem dX15_expression_143 : decode cX15_expression 143 = .ok (.iload_n 1, 1) := by decide +kernel
theorem dX15_expression_144 : decode cX15_expression 144 = .ok (.iload 4, 2) := by decide +kernel
theorem dX15_expression_146 : decode cX15_expression 146 = .ok (.invokestatic 420, 3) := by decide +kernel
theorem dX15_expression_149 : decode cX15_expression 149 = .ok (.invokevirtual 427, 3) := by decide +kernel
theorem dX15_expression_152 : decode cX15_expression 152 = .ok (.aload_n 0, 1) := by decide +kernel
theorem dX15_expression_153 : decode cX15_expression 153 = .ok (.iconst 1, 1) := by decide +kernel
theorem dX15_expression_154 : decode cX15_expression 154 = .ok (.iload 4, 2) := by decide +kernel
theorem dX15_expression_156 : decode cX15_expression 156 = .ok (.aload_n 0, 1) := by decide +kernel
theorem dX15_expression_157 : decode cX15_expression 157 = .ok (.getfield 326, 3) := by decide +kernel
theorem dX15_expression_160 : decode cX15_expression 160 = .ok (.invokevirtual 434, 3) := by decide +kernel
theorem dX15_expression_163 : decode cX15_expression 163 = .ok (.aload_n 0, 1) := by decide +kernel
theorem dX15_expression_164 : decode cX15_expression 164 = .ok (.dup, 1) := by decide +kernel
theorem dX15_expression_165 : decode cX15_expression 165 = .ok (.getfield 326, 3) := by decide +kernel
theorem dX15_expression_168 : decode cX15_expression 168 = .ok (.aload_n 0, 1) := by decide +kernel
theorem dX15_expression_169 : decode cX15_expression 169 = .ok (.invokevirtual 405, 3) := by decide +kernel
theorem dX15_expression_172 : decode cX15_expression 172 = .ok (.ifCond .eq 7, 3) := by decide +kernel
theorem dX15_expression_175 : decode cX15_expression 175 = .ok (.iconst 2, 1) := by decide +kernel
theorem dX15_expression_176 : decode cX15_expression 176 = .ok (.goto 4, 3) := by decide +kernel
theorem dX15_expression_179 : decode cX15_expression 179 = .ok (.iconst 1, 1) := by decide +kernel
theorem dX15_expression_180 : decode cX15_expression 180 = .ok (.iadd, 1) := by decide +kernel
theorem dX15_expression_181 : decode cX15_expression 181 = .ok (.putfield 326, 3) := by decide +kernel
theorem dX15_expression_184 : decode cX15_expression 184 = .ok (.iconst 1, 1) := by decide +kernel
theorem dX15_expression_185 : decode cX15_expression 185 = .ok (.istore_n 2, 1) := by decide +kernel
theorem dX15_expression_186 : decode cX15_expression 186 = .ok (.goto 70, 3) := by decide +kernel
theorem dX15_expression_189 : decode cX15_expression 189 = .ok (.aload_n 0, 1) := by decide +kernel
theorem dX15_expression_190 : decode cX15_expression 190 = .ok (.bipush 63, 2) := by decide +kernel
theorem dX15_expression_192 : decode cX15_expression 192 = .ok (.invokevirtual 408, 3) := by decide +kernel
theorem dX15_expression_195 : decode cX15_expression 195 = .ok (.ifCond .eq 42, 3) := by decide +kernel
theorem dX15_expression_198 : decode cX15_expression 198 = .ok (.aload_n 0, 1) := by decide +kernel
theorem dX15_expression_199 : decode cX15_expression 199 = .ok (.iload_n 1, 1) := by decide +kernel
theorem dX15_expression_200 : decode cX15_expression 200 = .ok (.iconst 0, 1) := by decide +kernel
theorem dX15_expression_201 : decode cX15_expression 201 = .ok (.invokevirtual 427, 3) := by decide +kernel
theorem dX15_expression_204 : decode cX15_expression 204 = .ok (.aload_n 0, 1) := by decide +kernel
theorem dX15_expression_205 : decode cX15_expression 205 = .ok (.aload_n 0, 1) := by decide +kernel
theorem dX15_expression_206 : decode cX15_expression 206 = .ok (.getfield 326, 3) := by decide +kernel
theorem dX15_expression_209 : decode cX15_expression 209 = .ok (.invokevirtual 430, 3) := by decide +kernel
theorem dX15_expression_212 : decode cX15_expression 212 = .ok (.aload_n 0, 1) := by decide +kernel
theorem dX15_expression_213 : decode cX15_expression 213 = .ok (.iconst 3, 1) := by decide +kernel
theorem dX15_expression_214 : decode cX15_expression 214 = .ok (.iconst 0, 1) := by decide +kernel
theorem dX15_expression_215 : decode cX15_expression 215 = .ok (.aload_n 0, 1) := by decide +kernel
theorem dX15_expression_216 : decode cX15_expression 216 = .ok (.getfield 326, 3) := by decide +kernel
theorem dX15_expression_219 : decode cX15_expression 219 = .ok (.invokevirtual 434, 3) := by decide +kernel
theorem dX15_expression_222 : decode cX15_expression 222 = .ok (.aload_n 0, 1) := by decide +kernel
theorem dX15_expression_223 : decode cX15_expression 223 = .ok (.dup, 1) := by decide +kernel
theorem dX15_expression_224 : decode cX15_expression 224 = .ok (.getfield 326, 3) := by decide +kernel
theorem dX15_expression_227 : decode cX15_expression 227 = .ok (.iconst 1, 1) := by decide +kernel
theorem dX15_expression_228 : decode cX15_expression 228 = .ok (.iadd, 1) := by decide +kernel
theorem dX15_expression_229 : decode cX15_expression 229 = .ok (.putfield 326, 3) := by decide +kernel
theorem dX15_expression_232 : decode cX15_expression 232 = .ok (.iconst 1, 1) := by decide +kernel
theorem dX15_expression_233 : decode cX15_expression 233 = .ok (.istore_n 2, 1) := by decide +kernel
theorem dX15_expression_234 : decode cX15_expression 234 = .ok (.goto 22, 3) := by decide +kernel
theorem dX15_expression_237 : decode cX15_expression 237 = .ok (.aload_n 0, 1) := by decide +kernel
theorem dX15_expression_238 : decode cX15_expression 238 = .ok (.iload_n 1, 1) := by decide +kernel
theorem dX15_expression_239 : decode cX15_expression 239 = .ok (.invokevirtual 460, 3) := by decide +kernel
theorem dX15_expression_242 : decode cX15_expression 242 = .ok (.ifCond .ne 7, 3) := by decide +kernel
theorem dX15_expression_245 : decode cX15_expression 245 = .ok (.iconst 1, 1) := by decide +kernel
theorem dX15_expression_246 : decode cX15_expression 246 = .ok (.goto 4, 3) := by decide +kernel
theorem dX15_expression_249 : decode cX15_expression 249 = .ok (.iconst 0, 1) := by decide +kernel
theorem dX15_expression_250 : decode cX15_expression 250 = .ok (.istore_n 3, 1) := by decide +kernel
theorem dX15_expression_251 : decode cX15_expression 251 = .ok (.aload_n 0, 1) := by decide +kernel
theorem dX15_expression_252 : decode cX15_expression 252 = .ok (.getfield 463, 3) := by decide +kernel
theorem dX15_expression_255 : decode cX15_expression 255 = .ok (.istore_n 2, 1) := by decide +kernel
theorem dX15_expression_256 : decode cX15_expression 256 = .ok (.goto (-247), 3) := by decide +kernel
theorem dX15_expression_259 : decode cX15_expression 259 = .ok (.aload_n 0, 1) := by decide +kernel
theorem dX15_expression_260 : decode cX15_expression 260 = .ok (.iload_n 1, 1) := by decide +kernel
theorem dX15_expression_261 : decode cX15_expression 261 = .ok (.putfield 417, 3) := by decide +kernel
theorem dX15_expression_264 : decode cX15_expression 264 = .ok (.return_, 1) := by decide +kernel
theorem dX15_takeOperand_0 : decode cX15_takeOperand 0 = .ok (.aload_n 0, 1) := by decide +kernel
theorem dX15_takeOperand_1 : decode cX15_takeOperand 1 = .ok (.invokevirtual 383, 3) := by decide +kernel
theorem dX15_takeOperand_4 : decode cX15_takeOperand 4 = .ok (.aload_n 0, 1) := by decide +kernel
theorem dX15_takeOperand_5 : decode cX15_takeOperand 5 = .ok (.getfield 326, 3) := by decide +kernel
theorem dX15_takeOperand_8 : decode cX15_takeOperand 8 = .ok (.istore_n 1, 1) := by decide +kernel
theorem dX15_takeOperand_9 : decode cX15_takeOperand 9 = .ok (.aload_n 0, 1) := by decide +kernel
theorem dX15_takeOperand_10 : decode cX15_takeOperand 10 = .ok (.iconst 0, 1) := by decide +kernel
theorem dX15_takeOperand_11 : decode cX15_takeOperand 11 = .ok (.invokevirtual 329, 3) := by decide +kernel
theorem dX15_takeOperand_14 : decode cX15_takeOperand 14 = .ok (.istore_n 2, 1) := by decide +kernel
theorem dX15_takeOperand_15 : decode cX15_takeOperand 15 = .ok (.aload_n 0, 1) := by decide +kernel
theorem dX15_takeOperand_16 : decode cX15_takeOperand 16 = .ok (.bipush 40, 2) := by decide +kernel
theorem dX15_takeOperand_18 : decode cX15_takeOperand 18 = .ok (.invokevirtual 408, 3) := by decide +kernel
theorem dX15_takeOperand_21 : decode cX15_takeOperand 21 = .ok (.ifCond .eq 36, 3) := by decide +kernel
theorem dX15_takeOperand_24 : decode cX15_takeOperand 24 = .ok (.aload_n 0, 1) := by decide +kernel
theorem dX15_takeOperand_25 : decode cX15_takeOperand 25 = .ok (.iconst 1, 1) := by decide +kernel
theorem dX15_takeOperand_26 : decode cX15_takeOperand 26 = .ok (.iconst 0, 1) := by decide +kernel
theorem dX15_takeOperand_27 : decode cX15_takeOperand 27 = .ok (.iconst 0, 1) := by decide +kernel
theorem dX15_takeOperand_28 : decode cX15_takeOperand 28 = .ok (.iload_n 1, 1) := by decide +kernel
theorem dX15_takeOperand_29 : decode cX15_takeOperand 29 = .ok (.invokevirtual 423, 3) := by decide +kernel
theorem dX15_takeOperand_32 : decode cX15_takeOperand 32 = .ok (.istore_n 3, 1) := by decide +kernel
theorem dX15_takeOperand_33 : decode cX15_takeOperand 33 = .ok (.aload_n 0, 1) := by decide +kernel
theorem dX15_takeOperand_34 : decode cX15_takeOperand 34 = .ok (.iload_n 1, 1) := by decide +kernel
theorem dX15_takeOperand_35 : decode cX15_takeOperand 35 = .ok (.invokevirtual 430, 3) := by decide +kernel
theorem dX15_takeOperand_38 : decode cX15_takeOperand 38 = .ok (.aload_n 0, 1) := by decide +kernel
theorem dX15_takeOperand_39 : decode cX15_takeOperand 39 = .ok (.iconst 5, 1) := by decide +kernel
theorem dX15_takeOperand_40 : decode cX15_takeOperand 40 = .ok (.iconst 0, 1) := by decide +kernel
theorem dX15_takeOperand_41 : decode cX15_takeOperand 41 = .ok (.iload_n 1, 1) := by decide +kernel
theorem dX15_takeOperand_42 : decode cX15_takeOperand 42 = .ok (.invokevirtual 434, 3) := by decide +kernel
theorem dX15_takeOperand_45 : decode cX15_takeOperand 45 = .ok (.aload_n 0, 1) := by decide +kernel
theorem dX15_takeOperand_46 : decode cX15_takeOperand 46 = .ok (.dup, 1) := by decide +kernel
theorem dX15_takeOperand_47 : decode cX15_takeOperand 47 = .ok (.getfield 326, 3) := by decide +kernel
theorem dX15_takeOperand_50 : decode cX15_takeOperand 50 = .ok (.iconst 1, 1) := by decide +kernel
theorem dX15_takeOperand_51 : decode cX15_takeOperand 51 = .ok (.iadd, 1) := by decide +kernel
theorem dX15_takeOperand_52 : decode cX15_takeOperand 52 = .ok (.putfield 326, 3) := by decide +kernel
theorem dX15_takeOperand_55 : decode cX15_takeOperand 55 = .ok (.iconst 0, 1) := by decide +kernel
theorem dX15_takeOperand_56 : decode cX15_takeOperand 56 = .ok (.ireturn, 1) := by decide +kernel
theorem dX15_takeOperand_57 : decode cX15_takeOperand 57 = .ok (.aload_n 0, 1) := by decide +kernel
theorem dX15_takeOperand_58 : decode cX15_takeOperand 58 = .ok (.bipush 45, 2) := by decide +kernel
theorem dX15_takeOperand_60 : decode cX15_takeOperand 60 = .ok (.invokevirtual 408, 3) := by decide +kernel
theorem dX15_takeOperand_63 : decode cX15_takeOperand 63 = .ok (.ifCond .ne 21, 3) := by decide +kernel
theorem dX15_takeOperand_66 : decode cX15_takeOperand 66 = .ok (.aload_n 0, 1) := by decide +kernel
theorem dX15_takeOperand_67 : decode cX15_takeOperand 67 = .ok (.bipush 126, 2) := by decide +kernel
theorem dX15_takeOperand_69 : decode cX15_takeOperand 69 = .ok (.invokevirtual 408, 3) := by decide +kernel
theorem dX15_takeOperand_72 : decode cX15_takeOperand 72 = .ok (.ifCond .ne 12, 3) := by decide +kernel
theorem dX15_takeOperand_75 : decode cX15_takeOperand 75 = .ok (.aload_n 0, 1) := by decide +kernel
theorem dX15_takeOperand_76 : decode cX15_takeOperand 76 = .ok (.bipush 33, 2) := by decide +kernel
theorem dX15_takeOperand_78 : decode cX15_takeOperand 78 = .ok (.invokevirtual 408, 3) := by decide +kernel
theorem dX15_takeOperand_81 : decode cX15_takeOperand 81 = .ok (.ifCond .eq 27, 3) := by decide +kernel
theorem dX15_takeOperand_84 : decode cX15_takeOperand 84 = .ok (.aload_n 0, 1) := by decide +kernel
theorem dX15_takeOperand_85 : decode cX15_takeOperand 85 = .ok (.iload_n 1, 1) := by decide +kernel
theorem dX15_takeOperand_86 : decode cX15_takeOperand 86 = .ok (.invokevirtual 430, 3) := by decide +kernel
theorem dX15_takeOperand_89 : decode cX15_takeOperand 89 = .ok (.aload_n 0, 1) := by decide +kernel
theorem dX15_takeOperand_90 : decode cX15_takeOperand 90 = .ok (.iconst 2, 1) := by decide +kernel
theorem dX15_takeOperand_91 : decode cX15_takeOperand 91 = .ok (.iload_n 2, 1) := by decide +kernel
theorem dX15_takeOperand_92 : decode cX15_takeOperand 92 = .ok (.iload_n 1, 1) := by decide +kernel
theorem dX15_takeOperand_93 : decode cX15_takeOperand 93 = .ok (.invokevirtual 434, 3) := by decide +kernel
theorem dX15_takeOperand_96 : decode cX15_takeOperand 96 = .ok (.aload_n 0, 1) := by decide +kernel
theorem dX15_takeOperand_97 : decode cX15_takeOperand 97 = .ok (.dup, 1) := by decide +kernel
theorem dX15_takeOperand_98 : decode cX15_takeOperand 98 = .ok (.getfield 326, 3) := by decide +kernel
theorem dX15_takeOperand_101 : decode cX15_takeOperand 101 = .ok (.iconst 1, 1) := by decide +kernel
theorem dX15_takeOperand_102 : decode cX15_takeOperand 102 = .ok (.iadd, 1) := by decide +kernel
theorem dX15_takeOperand_103 : decode cX15_takeOperand 103 = .ok (.putfield 326, 3) := by decide +kernel
theorem dX15_takeOperand_106 : decode cX15_takeOperand 106 = .ok (.iconst 0, 1) := by decide +kernel
theorem dX15_takeOperand_107 : decode cX15_takeOperand 107 = .ok (.ireturn, 1) := by decide +kernel
theorem dX15_takeOperand_108 : decode cX15_takeOperand 108 = .ok (.iload_n 2, 1) := by decide +kernel
theorem dX15_takeOperand_109 : decode cX15_takeOperand 109 = .ok (.invokestatic 337, 3) := by decide +kernel
theorem dX15_takeOperand_112 : decode cX15_takeOperand 112 = .ok (.ifCond .eq 46, 3) := by decide +kernel
theorem dX15_takeOperand_115 : decode cX15_takeOperand 115 = .ok (.aload_n 0, 1) := by decide +kernel
theorem dX15_takeOperand_116 : decode cX15_takeOperand 116 = .ok (.lconst 0, 1) := by decide +kernel
theorem dX15_takeOperand_117 : decode cX15_takeOperand 117 = .ok (.ldc2_w 403, 3) := by decide +kernel
theorem dX15_takeOperand_120 : decode cX15_takeOperand 120 = .ok (.invokevirtual 438, 3) := by decide +kernel
theorem dX15_takeOperand_123 : decode cX15_takeOperand 123 = .ok (.aload_n 0, 1) := by decide +kernel
theorem dX15_takeOperand_124 : decode cX15_takeOperand 124 = .ok (.iconst 1, 1) := by decide +kernel
theorem dX15_takeOperand_125 : decode cX15_takeOperand 125 = .ok (.iconst 0, 1) := by decide +kernel
theorem dX15_takeOperand_126 : decode cX15_takeOperand 126 = .ok (.iconst 0, 1) := by decide +kernel
theorem dX15_takeOperand_127 : decode cX15_takeOperand 127 = .ok (.iload_n 1, 1) := by decide +kernel
theorem dX15_takeOperand_128 : decode cX15_takeOperand 128 = .ok (.invokevirtual 423, 3) := by decide +kernel
theorem dX15_takeOperand_131 : decode cX15_takeOperand 131 = .ok (.istore_n 3, 1) := by decide +kernel
theorem dX15_takeOperand_132 : decode cX15_takeOperand 132 = .ok (.aload_n 0, 1) := by decide +kernel
theorem dX15_takeOperand_133 : decode cX15_takeOperand 133 = .ok (.iconst 2, 1) := by decide +kernel
theorem dX15_takeOperand_134 : decode cX15_takeOperand 134 = .ok (.iconst 0, 1) := by decide +kernel
theorem dX15_takeOperand_135 : decode cX15_takeOperand 135 = .ok (.iconst 0, 1) := by decide +kernel
theorem dX15_takeOperand_136 : decode cX15_takeOperand 136 = .ok (.iload_n 1, 1) := by decide +kernel
theorem dX15_takeOperand_137 : decode cX15_takeOperand 137 = .ok (.invokevirtual 423, 3) := by decide +kernel
theorem dX15_takeOperand_140 : decode cX15_takeOperand 140 = .ok (.istore_n 3, 1) := by decide +kernel
theorem dX15_takeOperand_141 : decode cX15_takeOperand 141 = .ok (.aload_n 0, 1) := by decide +kernel
theorem dX15_takeOperand_142 : decode cX15_takeOperand 142 = .ok (.getfield 34, 3) := by decide +kernel
theorem dX15_takeOperand_145 : decode cX15_takeOperand 145 = .ok (.iload_n 3, 1) := by decide +kernel
theorem dX15_takeOperand_146 : decode cX15_takeOperand 146 = .ok (.aload_n 0, 1) := by decide +kernel
theorem dX15_takeOperand_147 : decode cX15_takeOperand 147 = .ok (.getfield 396, 3) := by decide +kernel
theorem dX15_takeOperand_150 : decode cX15_takeOperand 150 = .ok (.aload_n 0, 1) := by decide +kernel
theorem dX15_takeOperand_151 : decode cX15_takeOperand 151 = .ok (.getfield 306, 3) := by decide +kernel
theorem dX15_takeOperand_154 : decode cX15_takeOperand 154 = .ok (.land, 1) := by decide +kernel
theorem dX15_takeOperand_155 : decode cX15_takeOperand 155 = .ok (.lastore, 1) := by decide +kernel
theorem dX15_takeOperand_156 : decode cX15_takeOperand 156 = .ok (.iconst 1, 1) := by decide +kernel
theorem dX15_takeOperand_157 : decode cX15_takeOperand 157 = .ok (.ireturn, 1) := by decide +kernel
theorem dX15_takeOperand_158 : decode cX15_takeOperand 158 = .ok (.aload_n 0, 1) := by decide +kernel
theorem dX15_takeOperand_159 : decode cX15_takeOperand 159 = .ok (.ldc_w 379, 3) := by decide +kernel
theorem dX15_takeOperand_162 : decode cX15_takeOperand 162 = .ok (.invokevirtual 355, 3) := by decide +kernel
theorem dX15_takeOperand_165 : decode cX15_takeOperand 165 = .ok (.ifCond .ne 13, 3) := by decide +kernel
theorem dX15_takeOperand_168 : decode cX15_takeOperand 168 = .ok (.aload_n 0, 1) := by decide +kernel
theorem dX15_takeOperand_169 : decode cX15_takeOperand 169 = .ok (.ldc_w 381, 3) := by decide +kernel
theorem dX15_takeOperand_172 : decode cX15_takeOperand 172 = .ok (.invokevirtual 355, 3) := by decide +kernel
theorem dX15_takeOperand_175 : decode cX15_takeOperand 175 = .ok (.ifCond .eq 45, 3) := by decide +kernel
theorem dX15_takeOperand_178 : decode cX15_takeOperand 178 = .ok (.aload_n 0, 1) := by decide +kernel
theorem dX15_takeOperand_179 : decode cX15_takeOperand 179 = .ok (.iconst 1, 1) := by decide +kernel
theorem dX15_takeOperand_180 : decode cX15_takeOperand 180 = .ok (.iconst 0, 1) := by decide +kernel
theorem dX15_takeOperand_181 : decode cX15_takeOperand 181 = .ok (.iconst 0, 1) := by decide +kernel
theorem dX15_takeOperand_182 : decode cX15_takeOperand 182 = .ok (.iload_n 1, 1) := by decide +kernel
theorem dX15_takeOperand_183 : decode cX15_takeOperand 183 = .ok (.invokevirtual 423, 3) := by decide +kernel
theorem dX15_takeOperand_186 : decode cX15_takeOperand 186 = .ok (.istore_n 3, 1) := by decide +kernel
theorem dX15_takeOperand_187 : decode cX15_takeOperand 187 = .ok (.aload_n 0, 1) := by decide +kernel
theorem dX15_takeOperand_188 : decode cX15_takeOperand 188 = .ok (.aload_n 0, 1) := by decide +kernel
theorem dX15_takeOperand_189 : decode cX15_takeOperand 189 = .ok (.ldc_w 379, 3) := by decide +kernel
theorem dX15_takeOperand_192 : decode cX15_takeOperand 192 = .ok (.invokevirtual 355, 3) := by decide +kernel
theorem dX15_takeOperand_195 : decode cX15_takeOperand 195 = .ok (.ifCond .eq 7, 3) := by decide +kernel
theorem dX15_takeOperand_198 : decode cX15_takeOperand 198 = .ok (.iconst 3, 1) := by decide +kernel
theorem dX15_takeOperand_199 : decode cX15_takeOperand 199 = .ok (.goto 4, 3) := by decide +kernel
theorem dX15_takeOperand_202 : decode cX15_takeOperand 202 = .ok (.iconst 4, 1) := by decide +kernel
theorem dX15_takeOperand_203 : decode cX15_takeOperand 203 = .ok (.iconst 0, 1) := by decide +kernel
theorem dX15_takeOperand_204 : decode cX15_takeOperand 204 = .ok (.iconst 0, 1) := by decide +kernel
theorem dX15_takeOperand_205 : decode cX15_takeOperand 205 = .ok (.iload_n 1, 1) := by decide +kernel
theorem dX15_takeOperand_206 : decode cX15_takeOperand 206 = .ok (.invokevirtual 423, 3) := by decide +kernel
theorem dX15_takeOperand_209 : decode cX15_takeOperand 209 = .ok (.istore_n 3, 1) := by decide +kernel
theorem dX15_takeOperand_210 : decode cX15_takeOperand 210 = .ok (.aload_n 0, 1) := by decide +kernel
theorem dX15_takeOperand_211 : decode cX15_takeOperand 211 = .ok (.aload_n 0, 1) := by decide +kernel
theorem dX15_takeOperand_212 : decode cX15_takeOperand 212 = .ok (.invokevirtual 340, 3) := by decide +kernel
theorem dX15_takeOperand_215 : decode cX15_takeOperand 215 = .ok (.putfield 326, 3) := by decide +kernel
theorem dX15_takeOperand_218 : decode cX15_takeOperand 218 = .ok (.iconst 1, 1) := by decide +kernel
theorem dX15_takeOperand_219 : decode cX15_takeOperand 219 = .ok (.ireturn, 1) := by decide +kernel
theorem dX15_takeOperand_220 : decode cX15_takeOperand 220 = .ok (.aload_n 0, 1) := by decide +kernel
theorem dX15_takeOperand_221 : decode cX15_takeOperand 221 = .ok (.ldc_w 375, 3) := by decide +kernel
theorem dX15_takeOperand_224 : decode cX15_takeOperand 224 = .ok (.invokevirtual 355, 3) := by decide +kernel
theorem dX15_takeOperand_227 : decode cX15_takeOperand 227 = .ok (.ifCond .ne 13, 3) := by decide +kernel
theorem dX15_takeOperand_230 : decode cX15_takeOperand 230 = .ok (.aload_n 0, 1) := by decide +kernel
theorem dX15_takeOperand_231 : decode cX15_takeOperand 231 = .ok (.ldc_w 377, 3) := by decide +kernel
theorem dX15_takeOperand_234 : decode cX15_takeOperand 234 = .ok (.invokevirtual 355, 3) := by decide +kernel
theorem dX15_takeOperand_237 : decode cX15_takeOperand 237 = .ok (.ifCond .eq 79, 3) := by decide +kernel
theorem dX15_takeOperand_240 : decode cX15_takeOperand 240 = .ok (.aload_n 0, 1) := by decide +kernel
theorem dX15_takeOperand_241 : decode cX15_takeOperand 241 = .ok (.ldc_w 375, 3) := by decide +kernel
theorem dX15_takeOperand_244 : decode cX15_takeOperand 244 = .ok (.invokevirtual 355, 3) := by decide +kernel
theorem dX15_takeOperand_247 : decode cX15_takeOperand 247 = .ok (.istore_n 3, 1) := by decide +kernel
theorem dX15_takeOperand_248 : decode cX15_takeOperand 248 = .ok (.aload_n 0, 1) := by decide +kernel
theorem dX15_takeOperand_249 : decode cX15_takeOperand 249 = .ok (.iconst 1, 1) := by decide +kernel
theorem dX15_takeOperand_250 : decode cX15_takeOperand 250 = .ok (.iconst 0, 1) := by decide +kernel
theorem dX15_takeOperand_251 : decode cX15_takeOperand 251 = .ok (.iconst 0, 1) := by decide +kernel
theorem dX15_takeOperand_252 : decode cX15_takeOperand 252 = .ok (.iload_n 1, 1) := by decide +kernel
theorem dX15_takeOperand_253 : decode cX15_takeOperand 253 = .ok (.invokevirtual 423, 3) := by decide +kernel
theorem dX15_takeOperand_256 : decode cX15_takeOperand 256 = .ok (.istore 4, 2) := by decide +kernel
theorem dX15_takeOperand_258 : decode cX15_takeOperand 258 = .ok (.aload_n 0, 1) := by decide +kernel
theorem dX15_takeOperand_259 : decode cX15_takeOperand 259 = .ok (.dup, 1) := by decide +kernel
theorem dX15_takeOperand_260 : decode cX15_takeOperand 260 = .ok (.getfield 326, 3) := by decide +kernel
theorem dX15_takeOperand_263 : decode cX15_takeOperand 263 = .ok (.iconst 3, 1) := by decide +kernel
theorem dX15_takeOperand_264 : decode cX15_takeOperand 264 = .ok (.iadd, 1) := by decide +kernel
theorem dX15_takeOperand_265 : decode cX15_takeOperand 265 = .ok (.putfield 326, 3) := by decide +kernel
theorem dX15_takeOperand_268 : decode cX15_takeOperand 268 = .ok (.aload_n 0, 1) := by decide +kernel
theorem dX15_takeOperand_269 : decode cX15_takeOperand 269 = .ok (.invokevirtual 383, 3) := by decide +kernel
theorem dX15_takeOperand_272 : decode cX15_takeOperand 272 = .ok (.aload_n 0, 1) := by decide +kernel
theorem dX15_takeOperand_273 : decode cX15_takeOperand 273 = .ok (.getfield 326, 3) := by decide +kernel
theorem dX15_takeOperand_276 : decode cX15_takeOperand 276 = .ok (.istore 5, 2) := by decide +kernel
theorem dX15_takeOperand_278 : decode cX15_takeOperand 278 = .ok (.aload_n 0, 1) := by decide +kernel
theorem dX15_takeOperand_279 : decode cX15_takeOperand 279 = .ok (.bipush 40, 2) := by decide +kernel
theorem dX15_takeOperand_281 : decode cX15_takeOperand 281 = .ok (.invokevirtual 442, 3) := by decide +kernel
theorem dX15_takeOperand_284 : decode cX15_takeOperand 284 = .ok (.aload_n 0, 1) := by decide +kernel
theorem dX15_takeOperand_285 : decode cX15_takeOperand 285 = .ok (.getfield 323, 3) := by decide +kernel
theorem dX15_takeOperand_288 : decode cX15_takeOperand 288 = .ok (.ifCond .ne 9, 3) := by decide +kernel
theorem dX15_takeOperand_291 : decode cX15_takeOperand 291 = .ok (.aload_n 0, 1) := by decide +kernel
theorem dX15_takeOperand_292 : decode cX15_takeOperand 292 = .ok (.iload 5, 2) := by decide +kernel
theorem dX15_takeOperand_294 : decode cX15_takeOperand 294 = .ok (.invokevirtual 430, 3) := by decide +kernel
theorem dX15_takeOperand_297 : decode cX15_takeOperand 297 = .ok (.aload_n 0, 1) := by decide +kernel
theorem dX15_takeOperand_298 : decode cX15_takeOperand 298 = .ok (.iload_n 3, 1) := by decide +kernel
theorem dX15_takeOperand_299 : decode cX15_takeOperand 299 = .ok (.ifCond .eq 8, 3) := by decide +kernel
theorem dX15_takeOperand_302 : decode cX15_takeOperand 302 = .ok (.bipush 8, 2) := by decide +kernel
theorem dX15_takeOperand_304 : decode cX15_takeOperand 304 = .ok (.goto 5, 3) := by decide +kernel
theorem dX15_takeOperand_307 : decode cX15_takeOperand 307 = .ok (.bipush 9, 2) := by decide +kernel
theorem dX15_takeOperand_309 : decode cX15_takeOperand 309 = .ok (.iconst 0, 1) := by decide +kernel
theorem dX15_takeOperand_310 : decode cX15_takeOperand 310 = .ok (.iload_n 1, 1) := by decide +kernel
theorem dX15_takeOperand_311 : decode cX15_takeOperand 311 = .ok (.invokevirtual 434, 3) := by decide +kernel
theorem dX15_takeOperand_314 : decode cX15_takeOperand 314 = .ok (.iconst 0, 1) := by decide +kernel
theorem dX15_takeOperand_315 : decode cX15_takeOperand 315 = .ok (.ireturn, 1) := by decide +kernel
theorem dX15_takeOperand_316 : decode cX15_takeOperand 316 = .ok (.aload_n 0, 1) := by decide +kernel
theorem dX15_takeOperand_317 : decode cX15_takeOperand 317 = .ok (.invokevirtual 445, 3) := by decide +kernel
theorem dX15_takeOperand_320 : decode cX15_takeOperand 320 = .ok (.istore_n 3, 1) := by decide +kernel
theorem dX15_takeOperand_321 : decode cX15_takeOperand 321 = .ok (.aload_n 0, 1) := by decide +kernel
theorem dX15_takeOperand_322 : decode cX15_takeOperand 322 = .ok (.getfield 323, 3) := by decide +kernel
theorem dX15_takeOperand_325 : decode cX15_takeOperand 325 = .ok (.ifCond .le 5, 3) := by decide +kernel
theorem dX15_takeOperand_328 : decode cX15_takeOperand 328 = .ok (.iconst 1, 1) := by decide +kernel
theorem dX15_takeOperand_329 : decode cX15_takeOperand 329 = .ok (.ireturn, 1) := by decide +kernel
theorem dX15_takeOperand_330 : decode cX15_takeOperand 330 = .ok (.aload_n 0, 1) := by decide +kernel
theorem dX15_takeOperand_331 : decode cX15_takeOperand 331 = .ok (.iconst 1, 1) := by decide +kernel
theorem dX15_takeOperand_332 : decode cX15_takeOperand 332 = .ok (.iconst 0, 1) := by decide +kernel
theorem dX15_takeOperand_333 : decode cX15_takeOperand 333 = .ok (.iconst 0, 1) := by decide +kernel
theorem dX15_takeOperand_334 : decode cX15_takeOperand 334 = .ok (.iload_n 1, 1) := by decide +kernel
theorem dX15_takeOperand_335 : decode cX15_takeOperand 335 = .ok (.invokevirtual 423, 3) := by decide +kernel
theorem dX15_takeOperand_338 : decode cX15_takeOperand 338 = .ok (.istore 4, 2) := by decide +kernel
theorem dX15_takeOperand_340 : decode cX15_takeOperand 340 = .ok (.aload_n 0, 1) := by decide +kernel
theorem dX15_takeOperand_341 : decode cX15_takeOperand 341 = .ok (.invokevirtual 383, 3) := by decide +kernel
theorem dX15_takeOperand_344 : decode cX15_takeOperand 344 = .ok (.aload_n 0, 1) := by decide +kernel
theorem dX15_takeOperand_345 : decode cX15_takeOperand 345 = .ok (.bipush 91, 2) := by decide +kernel
theorem dX15_takeOperand_347 : decode cX15_takeOperand 347 = .ok (.invokevirtual 408, 3) := by decide +kernel
theorem dX15_takeOperand_350 : decode cX15_takeOperand 350 = .ok (.ifCond .eq 42, 3) := by decide +kernel
theorem dX15_takeOperand_353 : decode cX15_takeOperand 353 = .ok (.aload_n 0, 1) := by decide +kernel
theorem dX15_takeOperand_354 : decode cX15_takeOperand 354 = .ok (.aload_n 0, 1) := by decide +kernel
theorem dX15_takeOperand_355 : decode cX15_takeOperand 355 = .ok (.getfield 326, 3) := by decide +kernel
theorem dX15_takeOperand_358 : decode cX15_takeOperand 358 = .ok (.invokevirtual 430, 3) := by decide +kernel
theorem dX15_takeOperand_361 : decode cX15_takeOperand 361 = .ok (.aload_n 0, 1) := by decide +kernel
theorem dX15_takeOperand_362 : decode cX15_takeOperand 362 = .ok (.dup, 1) := by decide +kernel
theorem dX15_takeOperand_363 : decode cX15_takeOperand 363 = .ok (.getfield 326, 3) := by decide +kernel
theorem dX15_takeOperand_366 : decode cX15_takeOperand 366 = .ok (.iconst 1, 1) := by decide +kernel
theorem dX15_takeOperand_367 : decode cX15_takeOperand 367 = .ok (.iadd, 1) := by decide +kernel
theorem dX15_takeOperand_368 : decode cX15_takeOperand 368 = .ok (.putfield 326, 3) := by decide +kernel
theorem dX15_takeOperand_371 : decode cX15_takeOperand 371 = .ok (.aload_n 0, 1) := by decide +kernel
theorem dX15_takeOperand_372 : decode cX15_takeOperand 372 = .ok (.bipush 6, 2) := by decide +kernel
theorem dX15_takeOperand_374 : decode cX15_takeOperand 374 = .ok (.iload_n 3, 1) := by decide +kernel
theorem dX15_takeOperand_375 : decode cX15_takeOperand 375 = .ok (.iconst 0, 1) := by decide +kernel
theorem dX15_takeOperand_376 : decode cX15_takeOperand 376 = .ok (.iload_n 1, 1) := by decide +kernel
theorem dX15_takeOperand_377 : decode cX15_takeOperand 377 = .ok (.invokevirtual 423, 3) := by decide +kernel
theorem dX15_takeOperand_380 : decode cX15_takeOperand 380 = .ok (.istore 4, 2) := by decide +kernel
theorem dX15_takeOperand_382 : decode cX15_takeOperand 382 = .ok (.aload_n 0, 1) := by decide +kernel
theorem dX15_takeOperand_383 : decode cX15_takeOperand 383 = .ok (.bipush 6, 2) := by decide +kernel
theorem dX15_takeOperand_385 : decode cX15_takeOperand 385 = .ok (.iload_n 3, 1) := by decide +kernel
theorem dX15_takeOperand_386 : decode cX15_takeOperand 386 = .ok (.iload_n 1, 1) := by decide +kernel
theorem dX15_takeOperand_387 : decode cX15_takeOperand 387 = .ok (.invokevirtual 434, 3) := by decide +kernel
theorem dX15_takeOperand_390 : decode cX15_takeOperand 390 = .ok (.iconst 0, 1) := by decide +kernel
theorem dX15_takeOperand_391 : decode cX15_takeOperand 391 = .ok (.ireturn, 1) := by decide +kernel
theorem dX15_takeOperand_392 : decode cX15_takeOperand 392 = .ok (.aload_n 0, 1) := by decide +kernel
theorem dX15_takeOperand_393 : decode cX15_takeOperand 393 = .ok (.bipush 40, 2) := by decide +kernel
theorem dX15_takeOperand_395 : decode cX15_takeOperand 395 = .ok (.invokevirtual 408, 3) := by decide +kernel
theorem dX15_takeOperand_398 : decode cX15_takeOperand 398 = .ok (.ifCond .eq 52, 3) := by decide +kernel
theorem dX15_takeOperand_401 : decode cX15_takeOperand 401 = .ok (.aload_n 0, 1) := by decide +kernel
theorem dX15_takeOperand_402 : decode cX15_takeOperand 402 = .ok (.aload_n 0, 1) := by decide +kernel
theorem dX15_takeOperand_403 : decode cX15_takeOperand 403 = .ok (.getfield 326, 3) := by decide +kernel
theorem dX15_takeOperand_406 : decode cX15_takeOperand 406 = .ok (.invokevirtual 430, 3) := by decide +kernel
theorem dX15_takeOperand_409 : decode cX15_takeOperand 409 = .ok (.aload_n 0, 1) := by decide +kernel
theorem dX15_takeOperand_410 : decode cX15_takeOperand 410 = .ok (.dup, 1) := by decide +kernel
theorem dX15_takeOperand_411 : decode cX15_takeOperand 411 = .ok (.getfield 326, 3) := by decide +kernel
theorem dX15_takeOperand_414 : decode cX15_takeOperand 414 = .ok (.iconst 1, 1) := by decide +kernel
theorem dX15_takeOperand_415 : decode cX15_takeOperand 415 = .ok (.iadd, 1) := by decide +kernel
theorem dX15_takeOperand_416 : decode cX15_takeOperand 416 = .ok (.putfield 326, 3) := by decide +kernel
theorem dX15_takeOperand_419 : decode cX15_takeOperand 419 = .ok (.aload_n 0, 1) := by decide +kernel
theorem dX15_takeOperand_420 : decode cX15_takeOperand 420 = .ok (.bipush 8, 2) := by decide +kernel
theorem dX15_takeOperand_422 : decode cX15_takeOperand 422 = .ok (.iload_n 3, 1) := by decide +kernel
theorem dX15_takeOperand_423 : decode cX15_takeOperand 423 = .ok (.iconst 0, 1) := by decide +kernel
theorem dX15_takeOperand_424 : decode cX15_takeOperand 424 = .ok (.iload_n 1, 1) := by decide +kernel
theorem dX15_takeOperand_425 : decode cX15_takeOperand 425 = .ok (.invokevirtual 423, 3) := by decide +kernel
theorem dX15_takeOperand_428 : decode cX15_takeOperand 428 = .ok (.istore 4, 2) := by decide +kernel
theorem dX15_takeOperand_430 : decode cX15_takeOperand 430 = .ok (.aload_n 0, 1) := by decide +kernel
theorem dX15_takeOperand_431 : decode cX15_takeOperand 431 = .ok (.bipush 7, 2) := by decide +kernel
theorem dX15_takeOperand_433 : decode cX15_takeOperand 433 = .ok (.iload 4, 2) := by decide +kernel
theorem dX15_takeOperand_435 : decode cX15_takeOperand 435 = .ok (.iload_n 1, 1) := by decide +kernel
theorem dX15_takeOperand_436 : decode cX15_takeOperand 436 = .ok (.invokevirtual 434, 3) := by decide +kernel
theorem dX15_takeOperand_439 : decode cX15_takeOperand 439 = .ok (.aload_n 0, 1) := by decide +kernel
theorem dX15_takeOperand_440 : decode cX15_takeOperand 440 = .ok (.invokevirtual 383, 3) := by decide +kernel
theorem dX15_takeOperand_443 : decode cX15_takeOperand 443 = .ok (.aload_n 0, 1) := by decide +kernel
theorem dX15_takeOperand_444 : decode cX15_takeOperand 444 = .ok (.bipush 41, 2) := by decide +kernel
theorem dX15_takeOperand_446 : decode cX15_takeOperand 446 = .ok (.invokevirtual 408, 3) := by decide +kernel
theorem dX15_takeOperand_449 : decode cX15_takeOperand 449 = .ok (.ireturn, 1) := by decide +kernel
theorem dX15_takeOperand_450 : decode cX15_takeOperand 450 = .ok (.aload_n 0, 1) := by decide +kernel
theorem dX15_takeOperand_451 : decode cX15_takeOperand 451 = .ok (.iconst 5, 1) := by decide +kernel
theorem dX15_takeOperand_452 : decode cX15_takeOperand 452 = .ok (.iload_n 3, 1) := by decide +kernel
theorem dX15_takeOperand_453 : decode cX15_takeOperand 453 = .ok (.iconst 0, 1) := by decide +kernel
theorem dX15_takeOperand_454 : decode cX15_takeOperand 454 = .ok (.iload_n 1, 1) := by decide +kernel
theorem dX15_takeOperand_455 : decode cX15_takeOperand 455 = .ok (.invokevirtual 423, 3) := by decide +kernel
theorem dX15_takeOperand_458 : decode cX15_takeOperand 458 = .ok (.istore 4, 2) := by decide +kernel
theorem dX15_takeOperand_460 : decode cX15_takeOperand 460 = .ok (.iconst 1, 1) := by decide +kernel
theorem dX15_takeOperand_461 : decode cX15_takeOperand 461 = .ok (.ireturn, 1) := by decide +kernel
theorem dX15_push_0 : decode cX15_push 0 = .ok (.aload_n 0, 1) := by decide +kernel
theorem dX15_push_1 : decode cX15_push 1 = .ok (.getfield 38, 3) := by decide +kernel
theorem dX15_push_4 : decode cX15_push 4 = .ok (.aload_n 0, 1) := by decide +kernel
theorem dX15_push_5 : decode cX15_push 5 = .ok (.getfield 417, 3) := by decide +kernel
theorem dX15_push_8 : decode cX15_push 8 = .ok (.iload_n 1, 1) := by decide +kernel
theorem dX15_push_9 : decode cX15_push 9 = .ok (.iastore, 1) := by decide +kernel
theorem dX15_push_10 : decode cX15_push 10 = .ok (.aload_n 0, 1) := by decide +kernel
theorem dX15_push_11 : decode cX15_push 11 = .ok (.getfield 41, 3) := by decide +kernel
theorem dX15_push_14 : decode cX15_push 14 = .ok (.aload_n 0, 1) := by decide +kernel
theorem dX15_push_15 : decode cX15_push 15 = .ok (.getfield 417, 3) := by decide +kernel
theorem dX15_push_18 : decode cX15_push 18 = .ok (.iload_n 2, 1) := by decide +kernel
theorem dX15_push_19 : decode cX15_push 19 = .ok (.iastore, 1) := by decide +kernel
theorem dX15_push_20 : decode cX15_push 20 = .ok (.aload_n 0, 1) := by decide +kernel
theorem dX15_push_21 : decode cX15_push 21 = .ok (.getfield 44, 3) := by decide +kernel
theorem dX15_push_24 : decode cX15_push 24 = .ok (.aload_n 0, 1) := by decide +kernel
theorem dX15_push_25 : decode cX15_push 25 = .ok (.getfield 417, 3) := by decide +kernel
theorem dX15_push_28 : decode cX15_push 28 = .ok (.iload_n 3, 1) := by decide +kernel
theorem dX15_push_29 : decode cX15_push 29 = .ok (.iastore, 1) := by decide +kernel
theorem dX15_push_30 : decode cX15_push 30 = .ok (.aload_n 0, 1) := by decide +kernel
theorem dX15_push_31 : decode cX15_push 31 = .ok (.getfield 47, 3) := by decide +kernel
theorem dX15_push_34 : decode cX15_push 34 = .ok (.aload_n 0, 1) := by decide +kernel
theorem dX15_push_35 : decode cX15_push 35 = .ok (.getfield 417, 3) := by decide +kernel
theorem dX15_push_38 : decode cX15_push 38 = .ok (.iconst 0, 1) := by decide +kernel
theorem dX15_push_39 : decode cX15_push 39 = .ok (.iastore, 1) := by decide +kernel
theorem dX15_push_40 : decode cX15_push 40 = .ok (.aload_n 0, 1) := by decide +kernel
theorem dX15_push_41 : decode cX15_push 41 = .ok (.dup, 1) := by decide +kernel
theorem dX15_push_42 : decode cX15_push 42 = .ok (.getfield 417, 3) := by decide +kernel
theorem dX15_push_45 : decode cX15_push 45 = .ok (.iconst 1, 1) := by decide +kernel
theorem dX15_push_46 : decode cX15_push 46 = .ok (.iadd, 1) := by decide +kernel
theorem dX15_push_47 : decode cX15_push 47 = .ok (.putfield 417, 3) := by decide +kernel
theorem dX15_push_50 : decode cX15_push 50 = .ok (.return_, 1) := by decide +kernel
theorem dX15_number_0 : decode cX15_number 0 = .ok (.aload_n 0, 1) := by decide +kernel
theorem dX15_number_1 : decode cX15_number 1 = .ok (.invokevirtual 383, 3) := by decide +kernel
theorem dX15_number_4 : decode cX15_number 4 = .ok (.aload_n 0, 1) := by decide +kernel
theorem dX15_number_5 : decode cX15_number 5 = .ok (.getfield 326, 3) := by decide +kernel
theorem dX15_number_8 : decode cX15_number 8 = .ok (.istore 5, 2) := by decide +kernel
theorem dX15_number_10 : decode cX15_number 10 = .ok (.aload_n 0, 1) := by decide +kernel
theorem dX15_number_11 : decode cX15_number 11 = .ok (.iconst 0, 1) := by decide +kernel
theorem dX15_number_12 : decode cX15_number 12 = .ok (.invokevirtual 329, 3) := by decide +kernel
theorem dX15_number_15 : decode cX15_number 15 = .ok (.invokestatic 337, 3) := by decide +kernel
theorem dX15_number_18 : decode cX15_number 18 = .ok (.ifCond .ne 13, 3) := by decide +kernel
theorem dX15_number_21 : decode cX15_number 21 = .ok (.aload_n 0, 1) := by decide +kernel
theorem dX15_number_22 : decode cX15_number 22 = .ok (.iconst 1, 1) := by decide +kernel
theorem dX15_number_23 : decode cX15_number 23 = .ok (.aload_n 0, 1) := by decide +kernel
theorem dX15_number_24 : decode cX15_number 24 = .ok (.getfield 326, 3) := by decide +kernel
theorem dX15_number_27 : decode cX15_number 27 = .ok (.invokevirtual 390, 3) := by decide +kernel
theorem dX15_number_30 : decode cX15_number 30 = .ok (.return_, 1) := by decide +kernel
theorem dX15_number_31 : decode cX15_number 31 = .ok (.aload_n 0, 1) := by decide +kernel
theorem dX15_number_32 : decode cX15_number 32 = .ok (.lconst 0, 1) := by decide +kernel
theorem dX15_number_33 : decode cX15_number 33 = .ok (.putfield 396, 3) := by decide +kernel
theorem dX15_number_36 : decode cX15_number 36 = .ok (.aload_n 0, 1) := by decide +kernel
theorem dX15_number_37 : decode cX15_number 37 = .ok (.iconst 0, 1) := by decide +kernel
theorem dX15_number_38 : decode cX15_number 38 = .ok (.invokevirtual 329, 3) := by decide +kernel
theorem dX15_number_41 : decode cX15_number 41 = .ok (.invokestatic 337, 3) := by decide +kernel
theorem dX15_number_44 : decode cX15_number 44 = .ok (.ifCond .eq 58, 3) := by decide +kernel
theorem dX15_number_47 : decode cX15_number 47 = .ok (.aload_n 0, 1) := by decide +kernel
theorem dX15_number_48 : decode cX15_number 48 = .ok (.aload_n 0, 1) := by decide +kernel
theorem dX15_number_49 : decode cX15_number 49 = .ok (.getfield 326, 3) := by decide +kernel
theorem dX15_number_52 : decode cX15_number 52 = .ok (.iload 5, 2) := by decide +kernel
theorem dX15_number_54 : decode cX15_number 54 = .ok (.isub, 1) := by decide +kernel
theorem dX15_number_55 : decode cX15_number 55 = .ok (.bipush 10, 2) := by decide +kernel
theorem dX15_number_57 : decode cX15_number 57 = .ok (.if_icmp .ge 25, 3) := by decide +kernel
theorem dX15_number_60 : decode cX15_number 60 = .ok (.ldc2_w 399, 3) := by decide +kernel
theorem dX15_number_63 : decode cX15_number 63 = .ok (.aload_n 0, 1) := by decide +kernel
theorem dX15_number_64 : decode cX15_number 64 = .ok (.getfield 396, 3) := by decide +kernel
theorem dX15_number_67 : decode cX15_number 67 = .ok (.lmul, 1) := by decide +kernel
theorem dX15_number_68 : decode cX15_number 68 = .ok (.aload_n 0, 1) := by decide +kernel
theorem dX15_number_69 : decode cX15_number 69 = .ok (.iconst 0, 1) := by decide +kernel
theorem dX15_number_70 : decode cX15_number 70 = .ok (.invokevirtual 329, 3) := by decide +kernel
theorem dX15_number_73 : decode cX15_number 73 = .ok (.i2l, 1) := by decide +kernel
theorem dX15_number_74 : decode cX15_number 74 = .ok (.ladd, 1) := by decide +kernel
theorem dX15_number_75 : decode cX15_number 75 = .ok (.ldc2_w 401, 3) := by decide +kernel
theorem dX15_number_78 : decode cX15_number 78 = .ok (.lsub, 1) := by decide +kernel
theorem dX15_number_79 : decode cX15_number 79 = .ok (.goto 7, 3) := by decide +kernel
theorem dX15_number_82 : decode cX15_number 82 = .ok (.aload_n 0, 1) := by decide +kernel
theorem dX15_number_83 : decode cX15_number 83 = .ok (.getfield 396, 3) := by decide +kernel
theorem dX15_number_86 : decode cX15_number 86 = .ok (.putfield 396, 3) := by decide +kernel
theorem dX15_number_89 : decode cX15_number 89 = .ok (.aload_n 0, 1) := by decide +kernel
theorem dX15_number_90 : decode cX15_number 90 = .ok (.dup, 1) := by decide +kernel
theorem dX15_number_91 : decode cX15_number 91 = .ok (.getfield 326, 3) := by decide +kernel
theorem dX15_number_94 : decode cX15_number 94 = .ok (.iconst 1, 1) := by decide +kernel
theorem dX15_number_95 : decode cX15_number 95 = .ok (.iadd, 1) := by decide +kernel
theorem dX15_number_96 : decode cX15_number 96 = .ok (.putfield 326, 3) := by decide +kernel
theorem dX15_number_99 : decode cX15_number 99 = .ok (.goto (-63), 3) := by decide +kernel
theorem dX15_number_102 : decode cX15_number 102 = .ok (.aload_n 0, 1) := by decide +kernel
theorem dX15_number_103 : decode cX15_number 103 = .ok (.getfield 326, 3) := by decide +kernel
theorem dX15_number_106 : decode cX15_number 106 = .ok (.iload 5, 2) := by decide +kernel
theorem dX15_number_108 : decode cX15_number 108 = .ok (.isub, 1) := by decide +kernel
theorem dX15_number_109 : decode cX15_number 109 = .ok (.bipush 10, 2) := by decide +kernel
theorem dX15_number_111 : decode cX15_number 111 = .ok (.if_icmp .gt 32, 3) := by decide +kernel
theorem dX15_number_114 : decode cX15_number 114 = .ok (.aload_n 0, 1) := by decide +kernel
theorem dX15_number_115 : decode cX15_number 115 = .ok (.getfield 396, 3) := by decide +kernel
theorem dX15_number_118 : decode cX15_number 118 = .ok (.ldc2_w 403, 3) := by decide +kernel
theorem dX15_number_121 : decode cX15_number 121 = .ok (.lcmp, 1) := by decide +kernel
theorem dX15_number_122 : decode cX15_number 122 = .ok (.ifCond .gt 21, 3) := by decide +kernel
theorem dX15_number_125 : decode cX15_number 125 = .ok (.aload_n 0, 1) := by decide +kernel
theorem dX15_number_126 : decode cX15_number 126 = .ok (.getfield 396, 3) := by decide +kernel
theorem dX15_number_129 : decode cX15_number 129 = .ok (.lload_n 1, 1) := by decide +kernel
theorem dX15_number_130 : decode cX15_number 130 = .ok (.lcmp, 1) := by decide +kernel
theorem dX15_number_131 : decode cX15_number 131 = .ok (.ifCond .lt 12, 3) := by decide +kernel
theorem dX15_number_134 : decode cX15_number 134 = .ok (.aload_n 0, 1) := by decide +kernel
theorem dX15_number_135 : decode cX15_number 135 = .ok (.getfield 396, 3) := by decide +kernel
theorem dX15_number_138 : decode cX15_number 138 = .ok (.lload_n 3, 1) := by decide +kernel
theorem dX15_number_139 : decode cX15_number 139 = .ok (.lcmp, 1) := by decide +kernel
theorem dX15_number_140 : decode cX15_number 140 = .ok (.ifCond .le 10, 3) := by decide +kernel
theorem dX15_number_143 : decode cX15_number 143 = .ok (.aload_n 0, 1) := by decide +kernel
theorem dX15_number_144 : decode cX15_number 144 = .ok (.iconst 2, 1) := by decide +kernel
theorem dX15_number_145 : decode cX15_number 145 = .ok (.iload 5, 2) := by decide +kernel
theorem dX15_number_147 : decode cX15_number 147 = .ok (.invokevirtual 390, 3) := by decide +kernel
theorem dX15_number_150 : decode cX15_number 150 = .ok (.return_, 1) := by decide +kernel
theorem dX15_name_0 : decode cX15_name 0 = .ok (.aload_n 0, 1) := by decide +kernel
theorem dX15_name_1 : decode cX15_name 1 = .ok (.invokevirtual 383, 3) := by decide +kernel
theorem dX15_name_4 : decode cX15_name 4 = .ok (.aload_n 0, 1) := by decide +kernel
theorem dX15_name_5 : decode cX15_name 5 = .ok (.invokevirtual 340, 3) := by decide +kernel
theorem dX15_name_8 : decode cX15_name 8 = .ok (.istore_n 1, 1) := by decide +kernel
theorem dX15_name_9 : decode cX15_name 9 = .ok (.iload_n 1, 1) := by decide +kernel
theorem dX15_name_10 : decode cX15_name 10 = .ok (.aload_n 0, 1) := by decide +kernel
theorem dX15_name_11 : decode cX15_name 11 = .ok (.getfield 326, 3) := by decide +kernel
theorem dX15_name_14 : decode cX15_name 14 = .ok (.if_icmp .eq 10, 3) := by decide +kernel
theorem dX15_name_17 : decode cX15_name 17 = .ok (.aload_n 0, 1) := by decide +kernel
theorem dX15_name_18 : decode cX15_name 18 = .ok (.invokevirtual 386, 3) := by decide +kernel
theorem dX15_name_21 : decode cX15_name 21 = .ok (.ifCond .eq 14, 3) := by decide +kernel
theorem dX15_name_24 : decode cX15_name 24 = .ok (.aload_n 0, 1) := by decide +kernel
theorem dX15_name_25 : decode cX15_name 25 = .ok (.iconst 1, 1) := by decide +kernel
theorem dX15_name_26 : decode cX15_name 26 = .ok (.aload_n 0, 1) := by decide +kernel
theorem dX15_name_27 : decode cX15_name 27 = .ok (.getfield 326, 3) := by decide +kernel
theorem dX15_name_30 : decode cX15_name 30 = .ok (.invokevirtual 390, 3) := by decide +kernel
theorem dX15_name_33 : decode cX15_name 33 = .ok (.iconst 0, 1) := by decide +kernel
theorem dX15_name_34 : decode cX15_name 34 = .ok (.ireturn, 1) := by decide +kernel
theorem dX15_name_35 : decode cX15_name 35 = .ok (.iload_n 1, 1) := by decide +kernel
theorem dX15_name_36 : decode cX15_name 36 = .ok (.aload_n 0, 1) := by decide +kernel
theorem dX15_name_37 : decode cX15_name 37 = .ok (.getfield 326, 3) := by decide +kernel
theorem dX15_name_40 : decode cX15_name 40 = .ok (.isub, 1) := by decide +kernel
theorem dX15_name_41 : decode cX15_name 41 = .ok (.bipush 16, 2) := by decide +kernel
theorem dX15_name_43 : decode cX15_name 43 = .ok (.if_icmp .le 14, 3) := by decide +kernel
theorem dX15_name_46 : decode cX15_name 46 = .ok (.aload_n 0, 1) := by decide +kernel
theorem dX15_name_47 : decode cX15_name 47 = .ok (.iconst 2, 1) := by decide +kernel
theorem dX15_name_48 : decode cX15_name 48 = .ok (.aload_n 0, 1) := by decide +kernel
theorem dX15_name_49 : decode cX15_name 49 = .ok (.getfield 326, 3) := by decide +kernel
theorem dX15_name_52 : decode cX15_name 52 = .ok (.invokevirtual 390, 3) := by decide +kernel
theorem dX15_name_55 : decode cX15_name 55 = .ok (.iconst 0, 1) := by decide +kernel
theorem dX15_name_56 : decode cX15_name 56 = .ok (.ireturn, 1) := by decide +kernel
theorem dX15_name_57 : decode cX15_name 57 = .ok (.iload_n 1, 1) := by decide +kernel
theorem dX15_name_58 : decode cX15_name 58 = .ok (.aload_n 0, 1) := by decide +kernel
theorem dX15_name_59 : decode cX15_name 59 = .ok (.getfield 326, 3) := by decide +kernel
theorem dX15_name_62 : decode cX15_name 62 = .ok (.isub, 1) := by decide +kernel
theorem dX15_name_63 : decode cX15_name 63 = .ok (.istore_n 2, 1) := by decide +kernel
theorem dX15_name_64 : decode cX15_name 64 = .ok (.iconst 0, 1) := by decide +kernel
theorem dX15_name_65 : decode cX15_name 65 = .ok (.istore_n 3, 1) := by decide +kernel
theorem dX15_name_66 : decode cX15_name 66 = .ok (.iconst 0, 1) := by decide +kernel
theorem dX15_name_67 : decode cX15_name 67 = .ok (.istore 4, 2) := by decide +kernel
theorem dX15_name_69 : decode cX15_name 69 = .ok (.iload_n 3, 1) := by decide +kernel
theorem dX15_name_70 : decode cX15_name 70 = .ok (.aload_n 0, 1) := by decide +kernel
theorem dX15_name_71 : decode cX15_name 71 = .ok (.getfield 393, 3) := by decide +kernel
theorem dX15_name_74 : decode cX15_name 74 = .ok (.if_icmp .ge 97, 3) := by decide +kernel
theorem dX15_name_77 : decode cX15_name 77 = .ok (.iload 4, 2) := by decide +kernel
theorem dX15_name_79 : decode cX15_name 79 = .ok (.ifCond .ne 92, 3) := by decide +kernel
theorem dX15_name_82 : decode cX15_name 82 = .ok (.aload_n 0, 1) := by decide +kernel
theorem dX15_name_83 : decode cX15_name 83 = .ok (.getfield 19, 3) := by decide +kernel
theorem dX15_name_86 : decode cX15_name 86 = .ok (.iload_n 3, 1) := by decide +kernel
theorem dX15_name_87 : decode cX15_name 87 = .ok (.iaload, 1) := by decide +kernel
theorem dX15_name_88 : decode cX15_name 88 = .ok (.iload_n 2, 1) := by decide +kernel
theorem dX15_name_89 : decode cX15_name 89 = .ok (.if_icmp .ne 7, 3) := by decide +kernel
theorem dX15_name_92 : decode cX15_name 92 = .ok (.iconst 1, 1) := by decide +kernel
theorem dX15_name_93 : decode cX15_name 93 = .ok (.goto 4, 3) := by decide +kernel
theorem dX15_name_96 : decode cX15_name 96 = .ok (.iconst 0, 1) := by decide +kernel
theorem dX15_name_97 : decode cX15_name 97 = .ok (.istore 4, 2) := by decide +kernel
theorem dX15_name_99 : decode cX15_name 99 = .ok (.iconst 0, 1) := by decide +kernel
theorem dX15_name_100 : decode cX15_name 100 = .ok (.istore 5, 2) := by decide +kernel
theorem dX15_name_102 : decode cX15_name 102 = .ok (.iload 4, 2) := by decide +kernel
theorem dX15_name_104 : decode cX15_name 104 = .ok (.ifCond .eq 51, 3) := by decide +kernel
theorem dX15_name_107 : decode cX15_name 107 = .ok (.iload 5, 2) := by decide +kernel
theorem dX15_name_109 : decode cX15_name 109 = .ok (.iload_n 2, 1) := by decide +kernel
theorem dX15_name_110 : decode cX15_name 110 = .ok (.if_icmp .ge 45, 3) := by decide +kernel
theorem dX15_name_113 : decode cX15_name 113 = .ok (.aload_n 0, 1) := by decide +kernel
theorem dX15_name_114 : decode cX15_name 114 = .ok (.getfield 13, 3) := by decide +kernel
theorem dX15_name_117 : decode cX15_name 117 = .ok (.aload_n 0, 1) := by decide +kernel
theorem dX15_name_118 : decode cX15_name 118 = .ok (.getfield 16, 3) := by decide +kernel
theorem dX15_name_121 : decode cX15_name 121 = .ok (.iload_n 3, 1) := by decide +kernel
theorem dX15_name_122 : decode cX15_name 122 = .ok (.iaload, 1) := by decide +kernel
theorem dX15_name_123 : decode cX15_name 123 = .ok (.iload 5, 2) := by decide +kernel
theorem dX15_name_125 : decode cX15_name 125 = .ok (.iadd, 1) := by decide +kernel
theorem dX15_name_126 : decode cX15_name 126 = .ok (.iaload, 1) := by decide +kernel
theorem dX15_name_127 : decode cX15_name 127 = .ok (.aload_n 0, 1) := by decide +kernel
theorem dX15_name_128 : decode cX15_name 128 = .ok (.getfield 13, 3) := by decide +kernel
theorem dX15_name_131 : decode cX15_name 131 = .ok (.aload_n 0, 1) := by decide +kernel
theorem dX15_name_132 : decode cX15_name 132 = .ok (.getfield 326, 3) := by decide +kernel
theorem dX15_name_135 : decode cX15_name 135 = .ok (.iload 5, 2) := by decide +kernel
theorem dX15_name_137 : decode cX15_name 137 = .ok (.iadd, 1) := by decide +kernel
theorem dX15_name_138 : decode cX15_name 138 = .ok (.iaload, 1) := by decide +kernel
theorem dX15_name_139 : decode cX15_name 139 = .ok (.if_icmp .ne 7, 3) := by decide +kernel
theorem dX15_name_142 : decode cX15_name 142 = .ok (.iconst 1, 1) := by decide +kernel
theorem dX15_name_143 : decode cX15_name 143 = .ok (.goto 4, 3) := by decide +kernel
theorem dX15_name_146 : decode cX15_name 146 = .ok (.iconst 0, 1) := by decide +kernel
theorem dX15_name_147 : decode cX15_name 147 = .ok (.istore 4, 2) := by decide +kernel
theorem dX15_name_149 : decode cX15_name 149 = .ok (.iinc 5 1, 3) := by decide +kernel
theorem dX15_name_152 : decode cX15_name 152 = .ok (.goto (-50), 3) := by decide +kernel
theorem dX15_name_155 : decode cX15_name 155 = .ok (.iload_n 3, 1) := by decide +kernel
theorem dX15_name_156 : decode cX15_name 156 = .ok (.iload 4, 2) := by decide +kernel
theorem dX15_name_158 : decode cX15_name 158 = .ok (.ifCond .eq 7, 3) := by decide +kernel
theorem dX15_name_161 : decode cX15_name 161 = .ok (.iconst 0, 1) := by decide +kernel
theorem dX15_name_162 : decode cX15_name 162 = .ok (.goto 4, 3) := by decide +kernel
theorem dX15_name_165 : decode cX15_name 165 = .ok (.iconst 1, 1) := by decide +kernel
theorem dX15_name_166 : decode cX15_name 166 = .ok (.iadd, 1) := by decide +kernel
theorem dX15_name_167 : decode cX15_name 167 = .ok (.istore_n 3, 1) := by decide +kernel
theorem dX15_name_168 : decode cX15_name 168 = .ok (.goto (-99), 3) := by decide +kernel
theorem dX15_name_171 : decode cX15_name 171 = .ok (.iload_n 3, 1) := by decide +kernel
theorem dX15_name_172 : decode cX15_name 172 = .ok (.aload_n 0, 1) := by decide +kernel
theorem dX15_name_173 : decode cX15_name 173 = .ok (.getfield 393, 3) := by decide +kernel
theorem dX15_name_176 : decode cX15_name 176 = .ok (.if_icmp .ne 36, 3) := by decide +kernel
theorem dX15_name_179 : decode cX15_name 179 = .ok (.aload_n 0, 1) := by decide +kernel
theorem dX15_name_180 : decode cX15_name 180 = .ok (.getfield 16, 3) := by decide +kernel
theorem dX15_name_183 : decode cX15_name 183 = .ok (.aload_n 0, 1) := by decide +kernel
theorem dX15_name_184 : decode cX15_name 184 = .ok (.getfield 393, 3) := by decide +kernel
theorem dX15_name_187 : decode cX15_name 187 = .ok (.aload_n 0, 1) := by decide +kernel
theorem dX15_name_188 : decode cX15_name 188 = .ok (.getfield 326, 3) := by decide +kernel
theorem dX15_name_191 : decode cX15_name 191 = .ok (.iastore, 1) := by decide +kernel
theorem dX15_name_192 : decode cX15_name 192 = .ok (.aload_n 0, 1) := by decide +kernel
theorem dX15_name_193 : decode cX15_name 193 = .ok (.getfield 19, 3) := by decide +kernel
theorem dX15_name_196 : decode cX15_name 196 = .ok (.aload_n 0, 1) := by decide +kernel
theorem dX15_name_197 : decode cX15_name 197 = .ok (.getfield 393, 3) := by decide +kernel
theorem dX15_name_200 : decode cX15_name 200 = .ok (.iload_n 2, 1) := by decide +kernel
theorem dX15_name_201 : decode cX15_name 201 = .ok (.iastore, 1) := by decide +kernel
theorem dX15_name_202 : decode cX15_name 202 = .ok (.aload_n 0, 1) := by decide +kernel
theorem dX15_name_203 : decode cX15_name 203 = .ok (.dup, 1) := by decide +kernel
theorem dX15_name_204 : decode cX15_name 204 = .ok (.getfield 393, 3) := by decide +kernel
theorem dX15_name_207 : decode cX15_name 207 = .ok (.iconst 1, 1) := by decide +kernel
theorem dX15_name_208 : decode cX15_name 208 = .ok (.iadd, 1) := by decide +kernel
theorem dX15_name_209 : decode cX15_name 209 = .ok (.putfield 393, 3) := by decide +kernel
theorem dX15_name_212 : decode cX15_name 212 = .ok (.aload_n 0, 1) := by decide +kernel
theorem dX15_name_213 : decode cX15_name 213 = .ok (.iload_n 1, 1) := by decide +kernel
theorem dX15_name_214 : decode cX15_name 214 = .ok (.putfield 326, 3) := by decide +kernel
theorem dX15_name_217 : decode cX15_name 217 = .ok (.iload_n 3, 1) := by decide +kernel
theorem dX15_name_218 : decode cX15_name 218 = .ok (.ireturn, 1) := by decide +kernel
theorem dX15_isKept_0 : decode cX15_isKept 0 = .ok (.aload_n 0, 1) := by decide +kernel
theorem dX15_isKept_1 : decode cX15_isKept 1 = .ok (.ldc_w 353, 3) := by decide +kernel
theorem dX15_isKept_4 : decode cX15_isKept 4 = .ok (.invokevirtual 355, 3) := by decide +kernel
theorem dX15_isKept_7 : decode cX15_isKept 7 = .ok (.ifCond .ne 123, 3) := by decide +kernel
theorem dX15_isKept_10 : decode cX15_isKept 10 = .ok (.aload_n 0, 1) := by decide +kernel
theorem dX15_isKept_11 : decode cX15_isKept 11 = .ok (.ldc_w 359, 3) := by decide +kernel
theorem dX15_isKept_14 : decode cX15_isKept 14 = .ok (.invokevirtual 355, 3) := by decide +kernel
theorem dX15_isKept_17 : decode cX15_isKept 17 = .ok (.ifCond .ne 113, 3) := by decide +kernel
theorem dX15_isKept_20 : decode cX15_isKept 20 = .ok (.aload_n 0, 1) := by decide +kernel
theorem dX15_isKept_21 : decode cX15_isKept 21 = .ok (.ldc_w 361, 3) := by decide +kernel
theorem dX15_isKept_24 : decode cX15_isKept 24 = .ok (.invokevirtual 355, 3) := by decide +kernel
theorem dX15_isKept_27 : decode cX15_isKept 27 = .ok (.ifCond .ne 103, 3) := by decide +kernel
theorem dX15_isKept_30 : decode cX15_isKept 30 = .ok (.aload_n 0, 1) := by decide +kernel
theorem dX15_isKept_31 : decode cX15_isKept 31 = .ok (.ldc_w 363, 3) := by decide +kernel
theorem dX15_isKept_34 : decode cX15_isKept 34 = .ok (.invokevirtual 355, 3) := by decide +kernel
theorem dX15_isKept_37 : decode cX15_isKept 37 = .ok (.ifCond .ne 93, 3) := by decide +kernel
theorem dX15_isKept_40 : decode cX15_isKept 40 = .ok (.aload_n 0, 1) := by decide +kernel
theorem dX15_isKept_41 : decode cX15_isKept 41 = .ok (.ldc_w 365, 3) := by decide +kernel
theorem dX15_isKept_44 : decode cX15_isKept 44 = .ok (.invokevirtual 355, 3) := by decide +kernel
theorem dX15_isKept_47 : decode cX15_isKept 47 = .ok (.ifCond .ne 83, 3) := by decide +kernel
theorem dX15_isKept_50 : decode cX15_isKept 50 = .ok (.aload_n 0, 1) := by decide +kernel
theorem dX15_isKept_51 : decode cX15_isKept 51 = .ok (.ldc_w 367, 3) := by decide +kernel
theorem dX15_isKept_54 : decode cX15_isKept 54 = .ok (.invokevirtual 355, 3) := by decide +kernel
theorem dX15_isKept_57 : decode cX15_isKept 57 = .ok (.ifCond .ne 73, 3) := by decide +kernel
theorem dX15_isKept_60 : decode cX15_isKept 60 = .ok (.aload_n 0, 1) := by decide +kernel
theorem dX15_isKept_61 : decode cX15_isKept 61 = .ok (.ldc_w 369, 3) := by decide +kernel
theorem dX15_isKept_64 : decode cX15_isKept 64 = .ok (.invokevirtual 355, 3) := by decide +kernel
theorem dX15_isKept_67 : decode cX15_isKept 67 = .ok (.ifCond .ne 63, 3) := by decide +kernel
theorem dX15_isKept_70 : decode cX15_isKept 70 = .ok (.aload_n 0, 1) := by decide +kernel
theorem dX15_isKept_71 : decode cX15_isKept 71 = .ok (.ldc_w 371, 3) := by decide +kernel
theorem dX15_isKept_74 : decode cX15_isKept 74 = .ok (.invokevirtual 355, 3) := by decide +kernel
theorem dX15_isKept_77 : decode cX15_isKept 77 = .ok (.ifCond .ne 53, 3) := by decide +kernel
theorem dX15_isKept_80 : decode cX15_isKept 80 = .ok (.aload_n 0, 1) := by decide +kernel
theorem dX15_isKept_81 : decode cX15_isKept 81 = .ok (.ldc_w 373, 3) := by decide +kernel
theorem dX15_isKept_84 : decode cX15_isKept 84 = .ok (.invokevirtual 355, 3) := by decide +kernel
theorem dX15_isKept_87 : decode cX15_isKept 87 = .ok (.ifCond .ne 43, 3) := by decide +kernel
theorem dX15_isKept_90 : decode cX15_isKept 90 = .ok (.aload_n 0, 1) := by decide +kernel
theorem dX15_isKept_91 : decode cX15_isKept 91 = .ok (.ldc_w 375, 3) := by decide +kernel
theorem dX15_isKept_94 : decode cX15_isKept 94 = .ok (.invokevirtual 355, 3) := by decide +kernel
theorem dX15_isKept_97 : decode cX15_isKept 97 = .ok (.ifCond .ne 33, 3) := by decide +kernel
theorem dX15_isKept_100 : decode cX15_isKept 100 = .ok (.aload_n 0, 1) := by decide +kernel
theorem dX15_isKept_101 : decode cX15_isKept 101 = .ok (.ldc_w 377, 3) := by decide +kernel
theorem dX15_isKept_104 : decode cX15_isKept 104 = .ok (.invokevirtual 355, 3) := by decide +kernel
theorem dX15_isKept_107 : decode cX15_isKept 107 = .ok (.ifCond .ne 23, 3) := by decide +kernel
theorem dX15_isKept_110 : decode cX15_isKept 110 = .ok (.aload_n 0, 1) := by decide +kernel
theorem dX15_isKept_111 : decode cX15_isKept 111 = .ok (.ldc_w 379, 3) := by decide +kernel
theorem dX15_isKept_114 : decode cX15_isKept 114 = .ok (.invokevirtual 355, 3) := by decide +kernel
theorem dX15_isKept_117 : decode cX15_isKept 117 = .ok (.ifCond .ne 13, 3) := by decide +kernel
theorem dX15_isKept_120 : decode cX15_isKept 120 = .ok (.aload_n 0, 1) := by decide +kernel
theorem dX15_isKept_121 : decode cX15_isKept 121 = .ok (.ldc_w 381, 3) := by decide +kernel
theorem dX15_isKept_124 : decode cX15_isKept 124 = .ok (.invokevirtual 355, 3) := by decide +kernel
theorem dX15_isKept_127 : decode cX15_isKept 127 = .ok (.ifCond .eq 7, 3) := by decide +kernel
theorem dX15_isKept_130 : decode cX15_isKept 130 = .ok (.iconst 1, 1) := by decide +kernel
theorem dX15_isKept_131 : decode cX15_isKept 131 = .ok (.goto 4, 3) := by decide +kernel
theorem dX15_isKept_134 : decode cX15_isKept 134 = .ok (.iconst 0, 1) := by decide +kernel
theorem dX15_isKept_135 : decode cX15_isKept 135 = .ok (.ireturn, 1) := by decide +kernel
theorem dX15_signsOver_0 : decode cX15_signsOver 0 = .ok (.aload_n 0, 1) := by decide +kernel
theorem dX15_signsOver_1 : decode cX15_signsOver 1 = .ok (.getfield 417, 3) := by decide +kernel
theorem dX15_signsOver_4 : decode cX15_signsOver 4 = .ok (.iload_n 1, 1) := by decide +kernel
theorem dX15_signsOver_5 : decode cX15_signsOver 5 = .ok (.if_icmp .le 67, 3) := by decide +kernel
theorem dX15_signsOver_8 : decode cX15_signsOver 8 = .ok (.aload_n 0, 1) := by decide +kernel
theorem dX15_signsOver_9 : decode cX15_signsOver 9 = .ok (.getfield 38, 3) := by decide +kernel
theorem dX15_signsOver_12 : decode cX15_signsOver 12 = .ok (.aload_n 0, 1) := by decide +kernel
theorem dX15_signsOver_13 : decode cX15_signsOver 13 = .ok (.getfield 417, 3) := by decide +kernel
theorem dX15_signsOver_16 : decode cX15_signsOver 16 = .ok (.iconst 1, 1) := by decide +kernel
theorem dX15_signsOver_17 : decode cX15_signsOver 17 = .ok (.isub, 1) := by decide +kernel
theorem dX15_signsOver_18 : decode cX15_signsOver 18 = .ok (.iaload, 1) := by decide +kernel
theorem dX15_signsOver_19 : decode cX15_signsOver 19 = .ok (.iconst 2, 1) := by decide +kernel
theorem dX15_signsOver_20 : decode cX15_signsOver 20 = .ok (.if_icmp .ne 52, 3) := by decide +kernel
theorem dX15_signsOver_23 : decode cX15_signsOver 23 = .ok (.aload_n 0, 1) := by decide +kernel
theorem dX15_signsOver_24 : decode cX15_signsOver 24 = .ok (.dup, 1) := by decide +kernel
theorem dX15_signsOver_25 : decode cX15_signsOver 25 = .ok (.getfield 417, 3) := by decide +kernel
theorem dX15_signsOver_28 : decode cX15_signsOver 28 = .ok (.iconst 1, 1) := by decide +kernel
theorem dX15_signsOver_29 : decode cX15_signsOver 29 = .ok (.isub, 1) := by decide +kernel
theorem dX15_signsOver_30 : decode cX15_signsOver 30 = .ok (.putfield 417, 3) := by decide +kernel
theorem dX15_signsOver_33 : decode cX15_signsOver 33 = .ok (.aload_n 0, 1) := by decide +kernel
theorem dX15_signsOver_34 : decode cX15_signsOver 34 = .ok (.dup, 1) := by decide +kernel
theorem dX15_signsOver_35 : decode cX15_signsOver 35 = .ok (.getfield 414, 3) := by decide +kernel
theorem dX15_signsOver_38 : decode cX15_signsOver 38 = .ok (.iconst 1, 1) := by decide +kernel
theorem dX15_signsOver_39 : decode cX15_signsOver 39 = .ok (.isub, 1) := by decide +kernel
theorem dX15_signsOver_40 : decode cX15_signsOver 40 = .ok (.putfield 414, 3) := by decide +kernel
theorem dX15_signsOver_43 : decode cX15_signsOver 43 = .ok (.aload_n 0, 1) := by decide +kernel
theorem dX15_signsOver_44 : decode cX15_signsOver 44 = .ok (.bipush 12, 2) := by decide +kernel
theorem dX15_signsOver_46 : decode cX15_signsOver 46 = .ok (.aload_n 0, 1) := by decide +kernel
theorem dX15_signsOver_47 : decode cX15_signsOver 47 = .ok (.getfield 41, 3) := by decide +kernel
theorem dX15_signsOver_50 : decode cX15_signsOver 50 = .ok (.aload_n 0, 1) := by decide +kernel
theorem dX15_signsOver_51 : decode cX15_signsOver 51 = .ok (.getfield 417, 3) := by decide +kernel
theorem dX15_signsOver_54 : decode cX15_signsOver 54 = .ok (.iaload, 1) := by decide +kernel
theorem dX15_signsOver_55 : decode cX15_signsOver 55 = .ok (.iconst 0, 1) := by decide +kernel
theorem dX15_signsOver_56 : decode cX15_signsOver 56 = .ok (.aload_n 0, 1) := by decide +kernel
theorem dX15_signsOver_57 : decode cX15_signsOver 57 = .ok (.getfield 44, 3) := by decide +kernel
theorem dX15_signsOver_60 : decode cX15_signsOver 60 = .ok (.aload_n 0, 1) := by decide +kernel
theorem dX15_signsOver_61 : decode cX15_signsOver 61 = .ok (.getfield 417, 3) := by decide +kernel
theorem dX15_signsOver_64 : decode cX15_signsOver 64 = .ok (.iaload, 1) := by decide +kernel
theorem dX15_signsOver_65 : decode cX15_signsOver 65 = .ok (.invokevirtual 423, 3) := by decide +kernel
theorem dX15_signsOver_68 : decode cX15_signsOver 68 = .ok (.istore_n 2, 1) := by decide +kernel
theorem dX15_signsOver_69 : decode cX15_signsOver 69 = .ok (.goto (-69), 3) := by decide +kernel
theorem dX15_signsOver_72 : decode cX15_signsOver 72 = .ok (.return_, 1) := by decide +kernel
theorem dX15_operator_0 : decode cX15_operator 0 = .ok (.aload_n 0, 1) := by decide +kernel
theorem dX15_operator_1 : decode cX15_operator 1 = .ok (.iconst 0, 1) := by decide +kernel
theorem dX15_operator_2 : decode cX15_operator 2 = .ok (.invokevirtual 329, 3) := by decide +kernel
theorem dX15_operator_5 : decode cX15_operator 5 = .ok (.istore_n 1, 1) := by decide +kernel
theorem dX15_operator_6 : decode cX15_operator 6 = .ok (.aload_n 0, 1) := by decide +kernel
theorem dX15_operator_7 : decode cX15_operator 7 = .ok (.iconst 1, 1) := by decide +kernel
theorem dX15_operator_8 : decode cX15_operator 8 = .ok (.invokevirtual 329, 3) := by decide +kernel
theorem dX15_operator_11 : decode cX15_operator 11 = .ok (.istore_n 2, 1) := by decide +kernel
theorem dX15_operator_12 : decode cX15_operator 12 = .ok (.aload_n 0, 1) := by decide +kernel
theorem dX15_operator_13 : decode cX15_operator 13 = .ok (.invokevirtual 405, 3) := by decide +kernel
theorem dX15_operator_16 : decode cX15_operator 16 = .ok (.ifCond .eq 81, 3) := by decide +kernel
theorem dX15_operator_19 : decode cX15_operator 19 = .ok (.iload_n 1, 1) := by decide +kernel
theorem dX15_operator_20 : decode cX15_operator 20 = .ok (.bipush 124, 2) := by decide +kernel
theorem dX15_operator_22 : decode cX15_operator 22 = .ok (.if_icmp .ne 7, 3) := by decide +kernel
theorem dX15_operator_25 : decode cX15_operator 25 = .ok (.iconst 1, 1) := by decide +kernel
theorem dX15_operator_26 : decode cX15_operator 26 = .ok (.goto 70, 3) := by decide +kernel
theorem dX15_operator_29 : decode cX15_operator 29 = .ok (.iload_n 1, 1) := by decide +kernel
theorem dX15_operator_30 : decode cX15_operator 30 = .ok (.bipush 38, 2) := by decide +kernel
theorem dX15_operator_32 : decode cX15_operator 32 = .ok (.if_icmp .ne 7, 3) := by decide +kernel
theorem dX15_operator_35 : decode cX15_operator 35 = .ok (.iconst 2, 1) := by decide +kernel
theorem dX15_operator_36 : decode cX15_operator 36 = .ok (.goto 60, 3) := by decide +kernel
theorem dX15_operator_39 : decode cX15_operator 39 = .ok (.iload_n 1, 1) := by decide +kernel
theorem dX15_operator_40 : decode cX15_operator 40 = .ok (.bipush 61, 2) := by decide +kernel
theorem dX15_operator_42 : decode cX15_operator 42 = .ok (.if_icmp .ne 8, 3) := by decide +kernel
theorem dX15_operator_45 : decode cX15_operator 45 = .ok (.bipush 6, 2) := by decide +kernel
theorem dX15_operator_47 : decode cX15_operator 47 = .ok (.goto 49, 3) := by decide +kernel
theorem dX15_operator_50 : decode cX15_operator 50 = .ok (.iload_n 1, 1) := by decide +kernel
theorem dX15_operator_51 : decode cX15_operator 51 = .ok (.bipush 33, 2) := by decide +kernel
theorem dX15_operator_53 : decode cX15_operator 53 = .ok (.if_icmp .ne 8, 3) := by decide +kernel
theorem dX15_operator_56 : decode cX15_operator 56 = .ok (.bipush 7, 2) := by decide +kernel
theorem dX15_operator_58 : decode cX15_operator 58 = .ok (.goto 38, 3) := by decide +kernel
theorem dX15_operator_61 : decode cX15_operator 61 = .ok (.iload_n 1, 1) := by decide +kernel
theorem dX15_operator_62 : decode cX15_operator 62 = .ok (.bipush 60, 2) := by decide +kernel
theorem dX15_operator_64 : decode cX15_operator 64 = .ok (.if_icmp .ne 19, 3) := by decide +kernel
theorem dX15_operator_67 : decode cX15_operator 67 = .ok (.iload_n 2, 1) := by decide +kernel
theorem dX15_operator_68 : decode cX15_operator 68 = .ok (.bipush 60, 2) := by decide +kernel
theorem dX15_operator_70 : decode cX15_operator 70 = .ok (.if_icmp .ne 8, 3) := by decide +kernel
theorem dX15_operator_73 : decode cX15_operator 73 = .ok (.bipush 12, 2) := by decide +kernel
theorem dX15_operator_75 : decode cX15_operator 75 = .ok (.goto 21, 3) := by decide +kernel
theorem dX15_operator_78 : decode cX15_operator 78 = .ok (.bipush 9, 2) := by decide +kernel
theorem dX15_operator_80 : decode cX15_operator 80 = .ok (.goto 16, 3) := by decide +kernel
theorem dX15_operator_83 : decode cX15_operator 83 = .ok (.iload_n 2, 1) := by decide +kernel
theorem dX15_operator_84 : decode cX15_operator 84 = .ok (.bipush 62, 2) := by decide +kernel
theorem dX15_operator_86 : decode cX15_operator 86 = .ok (.if_icmp .ne 8, 3) := by decide +kernel
theorem dX15_operator_89 : decode cX15_operator 89 = .ok (.bipush 13, 2) := by decide +kernel
theorem dX15_operator_91 : decode cX15_operator 91 = .ok (.goto 5, 3) := by decide +kernel
theorem dX15_operator_94 : decode cX15_operator 94 = .ok (.bipush 11, 2) := by decide +kernel
theorem dX15_operator_96 : decode cX15_operator 96 = .ok (.ireturn, 1) := by decide +kernel
theorem dX15_operator_97 : decode cX15_operator 97 = .ok (.iload_n 1, 1) := by decide +kernel
theorem dX15_operator_98 : decode cX15_operator 98 = .ok (.bipush 124, 2) := by decide +kernel
theorem dX15_operator_100 : decode cX15_operator 100 = .ok (.if_icmp .ne 7, 3) := by decide +kernel
theorem dX15_operator_103 : decode cX15_operator 103 = .ok (.iconst 3, 1) := by decide +kernel
theorem dX15_operator_104 : decode cX15_operator 104 = .ok (.goto 101, 3) := by decide +kernel
theorem dX15_operator_107 : decode cX15_operator 107 = .ok (.iload_n 1, 1) := by decide +kernel
theorem dX15_operator_108 : decode cX15_operator 108 = .ok (.bipush 94, 2) := by decide +kernel
theorem dX15_operator_110 : decode cX15_operator 110 = .ok (.if_icmp .ne 7, 3) := by decide +kernel
theorem dX15_operator_113 : decode cX15_operator 113 = .ok (.iconst 4, 1) := by decide +kernel
theorem dX15_operator_114 : decode cX15_operator 114 = .ok (.goto 91, 3) := by decide +kernel
theorem dX15_operator_117 : decode cX15_operator 117 = .ok (.iload_n 1, 1) := by decide +kernel
theorem dX15_operator_118 : decode cX15_operator 118 = .ok (.bipush 38, 2) := by decide +kernel
theorem dX15_operator_120 : decode cX15_operator 120 = .ok (.if_icmp .ne 7, 3) := by decide +kernel
theorem dX15_operator_123 : decode cX15_operator 123 = .ok (.iconst 5, 1) := by decide +kernel
theorem dX15_operator_124 : decode cX15_operator 124 = .ok (.goto 81, 3) := by decide +kernel
theorem dX15_operator_127 : decode cX15_operator 127 = .ok (.iload_n 1, 1) := by decide +kernel
theorem dX15_operator_128 : decode cX15_operator 128 = .ok (.bipush 60, 2) := by decide +kernel
theorem dX15_operator_130 : decode cX15_operator 130 = .ok (.if_icmp .ne 8, 3) := by decide +kernel
theorem dX15_operator_133 : decode cX15_operator 133 = .ok (.bipush 8, 2) := by decide +kernel
theorem dX15_operator_135 : decode cX15_operator 135 = .ok (.goto 70, 3) := by decide +kernel
theorem dX15_operator_138 : decode cX15_operator 138 = .ok (.iload_n 1, 1) := by decide +kernel
theorem dX15_operator_139 : decode cX15_operator 139 = .ok (.bipush 62, 2) := by decide +kernel
theorem dX15_operator_141 : decode cX15_operator 141 = .ok (.if_icmp .ne 8, 3) := by decide +kernel
theorem dX15_operator_144 : decode cX15_operator 144 = .ok (.bipush 10, 2) := by decide +kernel
theorem dX15_operator_146 : decode cX15_operator 146 = .ok (.goto 59, 3) := by decide +kernel
theorem dX15_operator_149 : decode cX15_operator 149 = .ok (.iload_n 1, 1) := by decide +kernel
theorem dX15_operator_150 : decode cX15_operator 150 = .ok (.bipush 43, 2) := by decide +kernel
theorem dX15_operator_152 : decode cX15_operator 152 = .ok (.if_icmp .ne 8, 3) := by decide +kernel
theorem dX15_operator_155 : decode cX15_operator 155 = .ok (.bipush 14, 2) := by decide +kernel
theorem dX15_operator_157 : decode cX15_operator 157 = .ok (.goto 48, 3) := by decide +kernel
theorem dX15_operator_160 : decode cX15_operator 160 = .ok (.iload_n 1, 1) := by decide +kernel
theorem dX15_operator_161 : decode cX15_operator 161 = .ok (.bipush 45, 2) := by decide +kernel
theorem dX15_operator_163 : decode cX15_operator 163 = .ok (.if_icmp .ne 8, 3) := by decide +kernel
theorem dX15_operator_166 : decode cX15_operator 166 = .ok (.bipush 15, 2) := by decide +kernel
theorem dX15_operator_168 : decode cX15_operator 168 = .ok (.goto 37, 3) := by decide +kernel
theorem dX15_operator_171 : decode cX15_operator 171 = .ok (.iload_n 1, 1) := by decide +kernel
theorem dX15_operator_172 : decode cX15_operator 172 = .ok (.bipush 42, 2) := by decide +kernel
theorem dX15_operator_174 : decode cX15_operator 174 = .ok (.if_icmp .ne 8, 3) := by decide +kernel
theorem dX15_operator_177 : decode cX15_operator 177 = .ok (.bipush 16, 2) := by decide +kernel
theorem dX15_operator_179 : decode cX15_operator 179 = .ok (.goto 26, 3) := by decide +kernel
theorem dX15_operator_182 : decode cX15_operator 182 = .ok (.iload_n 1, 1) := by decide +kernel
theorem dX15_operator_183 : decode cX15_operator 183 = .ok (.bipush 47, 2) := by decide +kernel
theorem dX15_operator_185 : decode cX15_operator 185 = .ok (.if_icmp .ne 8, 3) := by decide +kernel
theorem dX15_operator_188 : decode cX15_operator 188 = .ok (.bipush 17, 2) := by decide +kernel
theorem dX15_operator_190 : decode cX15_operator 190 = .ok (.goto 15, 3) := by decide +kernel
theorem dX15_operator_193 : decode cX15_operator 193 = .ok (.iload_n 1, 1) := by decide +kernel
theorem dX15_operator_194 : decode cX15_operator 194 = .ok (.bipush 37, 2) := by decide +kernel
theorem dX15_operator_196 : decode cX15_operator 196 = .ok (.if_icmp .ne 8, 3) := by decide +kernel
theorem dX15_operator_199 : decode cX15_operator 199 = .ok (.bipush 18, 2) := by decide +kernel
theorem dX15_operator_201 : decode cX15_operator 201 = .ok (.goto 4, 3) := by decide +kernel
theorem dX15_operator_204 : decode cX15_operator 204 = .ok (.iconst 0, 1) := by decide +kernel
theorem dX15_operator_205 : decode cX15_operator 205 = .ok (.ireturn, 1) := by decide +kernel
theorem dX15_isFresh_0 : decode cX15_isFresh 0 = .ok (.aload_n 0, 1) := by decide +kernel
theorem dX15_isFresh_1 : decode cX15_isFresh 1 = .ok (.getfield 22, 3) := by decide +kernel
theorem dX15_isFresh_4 : decode cX15_isFresh 4 = .ok (.aload_n 0, 1) := by decide +kernel
theorem dX15_isFresh_5 : decode cX15_isFresh 5 = .ok (.getfield 411, 3) := by decide +kernel
theorem dX15_isFresh_8 : decode cX15_isFresh 8 = .ok (.iconst 1, 1) := by decide +kernel
theorem dX15_isFresh_9 : decode cX15_isFresh 9 = .ok (.isub, 1) := by decide +kernel
theorem dX15_isFresh_10 : decode cX15_isFresh 10 = .ok (.iaload, 1) := by decide +kernel
theorem dX15_isFresh_11 : decode cX15_isFresh 11 = .ok (.bipush 8, 2) := by decide +kernel
theorem dX15_isFresh_13 : decode cX15_isFresh 13 = .ok (.if_icmp .ne 57, 3) := by decide +kernel
theorem dX15_isFresh_16 : decode cX15_isFresh 16 = .ok (.aload_n 0, 1) := by decide +kernel
theorem dX15_isFresh_17 : decode cX15_isFresh 17 = .ok (.getfield 25, 3) := by decide +kernel
theorem dX15_isFresh_20 : decode cX15_isFresh 20 = .ok (.aload_n 0, 1) := by decide +kernel
theorem dX15_isFresh_21 : decode cX15_isFresh 21 = .ok (.getfield 411, 3) := by decide +kernel
theorem dX15_isFresh_24 : decode cX15_isFresh 24 = .ok (.iconst 1, 1) := by decide +kernel
theorem dX15_isFresh_25 : decode cX15_isFresh 25 = .ok (.isub, 1) := by decide +kernel
theorem dX15_isFresh_26 : decode cX15_isFresh 26 = .ok (.iaload, 1) := by decide +kernel
theorem dX15_isFresh_27 : decode cX15_isFresh 27 = .ok (.aload_n 0, 1) := by decide +kernel
theorem dX15_isFresh_28 : decode cX15_isFresh 28 = .ok (.getfield 25, 3) := by decide +kernel
theorem dX15_isFresh_31 : decode cX15_isFresh 31 = .ok (.aload_n 0, 1) := by decide +kernel
theorem dX15_isFresh_32 : decode cX15_isFresh 32 = .ok (.getfield 41, 3) := by decide +kernel
theorem dX15_isFresh_35 : decode cX15_isFresh 35 = .ok (.aload_n 0, 1) := by decide +kernel
theorem dX15_isFresh_36 : decode cX15_isFresh 36 = .ok (.getfield 417, 3) := by decide +kernel
theorem dX15_isFresh_39 : decode cX15_isFresh 39 = .ok (.iconst 1, 1) := by decide +kernel
theorem dX15_isFresh_40 : decode cX15_isFresh 40 = .ok (.isub, 1) := by decide +kernel
theorem dX15_isFresh_41 : decode cX15_isFresh 41 = .ok (.iaload, 1) := by decide +kernel
theorem dX15_isFresh_42 : decode cX15_isFresh 42 = .ok (.iaload, 1) := by decide +kernel
theorem dX15_isFresh_43 : decode cX15_isFresh 43 = .ok (.if_icmp .ne 27, 3) := by decide +kernel
theorem dX15_isFresh_46 : decode cX15_isFresh 46 = .ok (.aload_n 0, 1) := by decide +kernel
theorem dX15_isFresh_47 : decode cX15_isFresh 47 = .ok (.getfield 411, 3) := by decide +kernel
theorem dX15_isFresh_50 : decode cX15_isFresh 50 = .ok (.iconst 1, 1) := by decide +kernel
theorem dX15_isFresh_51 : decode cX15_isFresh 51 = .ok (.isub, 1) := by decide +kernel
theorem dX15_isFresh_52 : decode cX15_isFresh 52 = .ok (.aload_n 0, 1) := by decide +kernel
theorem dX15_isFresh_53 : decode cX15_isFresh 53 = .ok (.getfield 41, 3) := by decide +kernel
theorem dX15_isFresh_56 : decode cX15_isFresh 56 = .ok (.aload_n 0, 1) := by decide +kernel
theorem dX15_isFresh_57 : decode cX15_isFresh 57 = .ok (.getfield 417, 3) := by decide +kernel
theorem dX15_isFresh_60 : decode cX15_isFresh 60 = .ok (.iconst 1, 1) := by decide +kernel
theorem dX15_isFresh_61 : decode cX15_isFresh 61 = .ok (.isub, 1) := by decide +kernel
theorem dX15_isFresh_62 : decode cX15_isFresh 62 = .ok (.iaload, 1) := by decide +kernel
theorem dX15_isFresh_63 : decode cX15_isFresh 63 = .ok (.if_icmp .ne 7, 3) := by decide +kernel
theorem dX15_isFresh_66 : decode cX15_isFresh 66 = .ok (.iconst 1, 1) := by decide +kernel
theorem dX15_isFresh_67 : decode cX15_isFresh 67 = .ok (.goto 4, 3) := by decide +kernel
theorem dX15_isFresh_70 : decode cX15_isFresh 70 = .ok (.iconst 0, 1) := by decide +kernel
theorem dX15_isFresh_71 : decode cX15_isFresh 71 = .ok (.ireturn, 1) := by decide +kernel
theorem dX15_rank_0 : decode cX15_rank 0 = .ok (.iload_n 0, 1) := by decide +kernel
theorem dX15_rank_1 : decode cX15_rank 1 = .ok (.bipush 7, 2) := by decide +kernel
theorem dX15_rank_3 : decode cX15_rank 3 = .ok (.if_icmp .ne 8, 3) := by decide +kernel
theorem dX15_rank_6 : decode cX15_rank 6 = .ok (.bipush 6, 2) := by decide +kernel
theorem dX15_rank_8 : decode cX15_rank 8 = .ok (.goto 66, 3) := by decide +kernel
theorem dX15_rank_11 : decode cX15_rank 11 = .ok (.iload_n 0, 1) := by decide +kernel
theorem dX15_rank_12 : decode cX15_rank 12 = .ok (.bipush 8, 2) := by decide +kernel
theorem dX15_rank_14 : decode cX15_rank 14 = .ok (.if_icmp .lt 14, 3) := by decide +kernel
theorem dX15_rank_17 : decode cX15_rank 17 = .ok (.iload_n 0, 1) := by decide +kernel
theorem dX15_rank_18 : decode cX15_rank 18 = .ok (.bipush 11, 2) := by decide +kernel
theorem dX15_rank_20 : decode cX15_rank 20 = .ok (.if_icmp .gt 8, 3) := by decide +kernel
theorem dX15_rank_23 : decode cX15_rank 23 = .ok (.bipush 7, 2) := by decide +kernel
theorem dX15_rank_25 : decode cX15_rank 25 = .ok (.goto 49, 3) := by decide +kernel
theorem dX15_rank_28 : decode cX15_rank 28 = .ok (.iload_n 0, 1) := by decide +kernel
theorem dX15_rank_29 : decode cX15_rank 29 = .ok (.bipush 12, 2) := by decide +kernel
theorem dX15_rank_31 : decode cX15_rank 31 = .ok (.if_icmp .eq 9, 3) := by decide +kernel
theorem dX15_rank_34 : decode cX15_rank 34 = .ok (.iload_n 0, 1) := by decide +kernel
theorem dX15_rank_35 : decode cX15_rank 35 = .ok (.bipush 13, 2) := by decide +kernel
theorem dX15_rank_37 : decode cX15_rank 37 = .ok (.if_icmp .ne 8, 3) := by decide +kernel
theorem dX15_rank_40 : decode cX15_rank 40 = .ok (.bipush 8, 2) := by decide +kernel
theorem dX15_rank_42 : decode cX15_rank 42 = .ok (.goto 32, 3) := by decide +kernel
theorem dX15_rank_45 : decode cX15_rank 45 = .ok (.iload_n 0, 1) := by decide +kernel
theorem dX15_rank_46 : decode cX15_rank 46 = .ok (.bipush 14, 2) := by decide +kernel
theorem dX15_rank_48 : decode cX15_rank 48 = .ok (.if_icmp .eq 9, 3) := by decide +kernel
theorem dX15_rank_51 : decode cX15_rank 51 = .ok (.iload_n 0, 1) := by decide +kernel
theorem dX15_rank_52 : decode cX15_rank 52 = .ok (.bipush 15, 2) := by decide +kernel
theorem dX15_rank_54 : decode cX15_rank 54 = .ok (.if_icmp .ne 8, 3) := by decide +kernel
theorem dX15_rank_57 : decode cX15_rank 57 = .ok (.bipush 9, 2) := by decide +kernel
theorem dX15_rank_59 : decode cX15_rank 59 = .ok (.goto 15, 3) := by decide +kernel
theorem dX15_rank_62 : decode cX15_rank 62 = .ok (.iload_n 0, 1) := by decide +kernel
theorem dX15_rank_63 : decode cX15_rank 63 = .ok (.bipush 16, 2) := by decide +kernel
theorem dX15_rank_65 : decode cX15_rank 65 = .ok (.if_icmp .lt 8, 3) := by decide +kernel
theorem dX15_rank_68 : decode cX15_rank 68 = .ok (.bipush 10, 2) := by decide +kernel
theorem dX15_rank_70 : decode cX15_rank 70 = .ok (.goto 4, 3) := by decide +kernel
theorem dX15_rank_73 : decode cX15_rank 73 = .ok (.iload_n 0, 1) := by decide +kernel
theorem dX15_rank_74 : decode cX15_rank 74 = .ok (.ireturn, 1) := by decide +kernel
theorem dX15_reduce_0 : decode cX15_reduce 0 = .ok (.aload_n 0, 1) := by decide +kernel
theorem dX15_reduce_1 : decode cX15_reduce 1 = .ok (.getfield 417, 3) := by decide +kernel
theorem dX15_reduce_4 : decode cX15_reduce 4 = .ok (.iload_n 1, 1) := by decide +kernel
theorem dX15_reduce_5 : decode cX15_reduce 5 = .ok (.if_icmp .le 75, 3) := by decide +kernel
theorem dX15_reduce_8 : decode cX15_reduce 8 = .ok (.aload_n 0, 1) := by decide +kernel
theorem dX15_reduce_9 : decode cX15_reduce 9 = .ok (.getfield 38, 3) := by decide +kernel
theorem dX15_reduce_12 : decode cX15_reduce 12 = .ok (.aload_n 0, 1) := by decide +kernel
theorem dX15_reduce_13 : decode cX15_reduce 13 = .ok (.getfield 417, 3) := by decide +kernel
theorem dX15_reduce_16 : decode cX15_reduce 16 = .ok (.iconst 1, 1) := by decide +kernel
theorem dX15_reduce_17 : decode cX15_reduce 17 = .ok (.isub, 1) := by decide +kernel
theorem dX15_reduce_18 : decode cX15_reduce 18 = .ok (.iaload, 1) := by decide +kernel
theorem dX15_reduce_19 : decode cX15_reduce 19 = .ok (.iconst 1, 1) := by decide +kernel
theorem dX15_reduce_20 : decode cX15_reduce 20 = .ok (.if_icmp .ne 60, 3) := by decide +kernel
theorem dX15_reduce_23 : decode cX15_reduce 23 = .ok (.aload_n 0, 1) := by decide +kernel
theorem dX15_reduce_24 : decode cX15_reduce 24 = .ok (.getfield 41, 3) := by decide +kernel
theorem dX15_reduce_27 : decode cX15_reduce 27 = .ok (.aload_n 0, 1) := by decide +kernel
theorem dX15_reduce_28 : decode cX15_reduce 28 = .ok (.getfield 417, 3) := by decide +kernel
theorem dX15_reduce_31 : decode cX15_reduce 31 = .ok (.iconst 1, 1) := by decide +kernel
theorem dX15_reduce_32 : decode cX15_reduce 32 = .ok (.isub, 1) := by decide +kernel
theorem dX15_reduce_33 : decode cX15_reduce 33 = .ok (.iaload, 1) := by decide +kernel
theorem dX15_reduce_34 : decode cX15_reduce 34 = .ok (.invokestatic 420, 3) := by decide +kernel
theorem dX15_reduce_37 : decode cX15_reduce 37 = .ok (.iload_n 2, 1) := by decide +kernel
theorem dX15_reduce_38 : decode cX15_reduce 38 = .ok (.if_icmp .lt 42, 3) := by decide +kernel
theorem dX15_reduce_41 : decode cX15_reduce 41 = .ok (.aload_n 0, 1) := by decide +kernel
theorem dX15_reduce_42 : decode cX15_reduce 42 = .ok (.dup, 1) := by decide +kernel
theorem dX15_reduce_43 : decode cX15_reduce 43 = .ok (.getfield 417, 3) := by decide +kernel
theorem dX15_reduce_46 : decode cX15_reduce 46 = .ok (.iconst 1, 1) := by decide +kernel
theorem dX15_reduce_47 : decode cX15_reduce 47 = .ok (.isub, 1) := by decide +kernel
theorem dX15_reduce_48 : decode cX15_reduce 48 = .ok (.putfield 417, 3) := by decide +kernel
theorem dX15_reduce_51 : decode cX15_reduce 51 = .ok (.aload_n 0, 1) := by decide +kernel
theorem dX15_reduce_52 : decode cX15_reduce 52 = .ok (.bipush 13, 2) := by decide +kernel
theorem dX15_reduce_54 : decode cX15_reduce 54 = .ok (.aload_n 0, 1) := by decide +kernel
theorem dX15_reduce_55 : decode cX15_reduce 55 = .ok (.getfield 41, 3) := by decide +kernel
theorem dX15_reduce_58 : decode cX15_reduce 58 = .ok (.aload_n 0, 1) := by decide +kernel
theorem dX15_reduce_59 : decode cX15_reduce 59 = .ok (.getfield 417, 3) := by decide +kernel
theorem dX15_reduce_62 : decode cX15_reduce 62 = .ok (.iaload, 1) := by decide +kernel
theorem dX15_reduce_63 : decode cX15_reduce 63 = .ok (.iconst 0, 1) := by decide +kernel
theorem dX15_reduce_64 : decode cX15_reduce 64 = .ok (.aload_n 0, 1) := by decide +kernel
theorem dX15_reduce_65 : decode cX15_reduce 65 = .ok (.getfield 44, 3) := by decide +kernel
theorem dX15_reduce_68 : decode cX15_reduce 68 = .ok (.aload_n 0, 1) := by decide +kernel
theorem dX15_reduce_69 : decode cX15_reduce 69 = .ok (.getfield 417, 3) := by decide +kernel
theorem dX15_reduce_72 : decode cX15_reduce 72 = .ok (.iaload, 1) := by decide +kernel
theorem dX15_reduce_73 : decode cX15_reduce 73 = .ok (.invokevirtual 423, 3) := by decide +kernel
theorem dX15_reduce_76 : decode cX15_reduce 76 = .ok (.istore_n 3, 1) := by decide +kernel
theorem dX15_reduce_77 : decode cX15_reduce 77 = .ok (.goto (-77), 3) := by decide +kernel
theorem dX15_reduce_80 : decode cX15_reduce 80 = .ok (.return_, 1) := by decide +kernel
theorem dX15_closes_0 : decode cX15_closes 0 = .ok (.aload_n 0, 1) := by decide +kernel
theorem dX15_closes_1 : decode cX15_closes 1 = .ok (.iconst 0, 1) := by decide +kernel
theorem dX15_closes_2 : decode cX15_closes 2 = .ok (.putfield 463, 3) := by decide +kernel
theorem dX15_closes_5 : decode cX15_closes 5 = .ok (.aload_n 0, 1) := by decide +kernel
theorem dX15_closes_6 : decode cX15_closes 6 = .ok (.getfield 417, 3) := by decide +kernel
theorem dX15_closes_9 : decode cX15_closes 9 = .ok (.iload_n 1, 1) := by decide +kernel
theorem dX15_closes_10 : decode cX15_closes 10 = .ok (.if_icmp .le 30, 3) := by decide +kernel
theorem dX15_closes_13 : decode cX15_closes 13 = .ok (.aload_n 0, 1) := by decide +kernel
theorem dX15_closes_14 : decode cX15_closes 14 = .ok (.getfield 38, 3) := by decide +kernel
theorem dX15_closes_17 : decode cX15_closes 17 = .ok (.aload_n 0, 1) := by decide +kernel
theorem dX15_closes_18 : decode cX15_closes 18 = .ok (.getfield 417, 3) := by decide +kernel
theorem dX15_closes_21 : decode cX15_closes 21 = .ok (.iconst 1, 1) := by decide +kernel
theorem dX15_closes_22 : decode cX15_closes 22 = .ok (.isub, 1) := by decide +kernel
theorem dX15_closes_23 : decode cX15_closes 23 = .ok (.iaload, 1) := by decide +kernel
theorem dX15_closes_24 : decode cX15_closes 24 = .ok (.bipush 7, 2) := by decide +kernel
theorem dX15_closes_26 : decode cX15_closes 26 = .ok (.if_icmp .ne 14, 3) := by decide +kernel
theorem dX15_closes_29 : decode cX15_closes 29 = .ok (.aload_n 0, 1) := by decide +kernel
theorem dX15_closes_30 : decode cX15_closes 30 = .ok (.invokevirtual 457, 3) := by decide +kernel
theorem dX15_closes_33 : decode cX15_closes 33 = .ok (.ifCond .eq 7, 3) := by decide +kernel
theorem dX15_closes_36 : decode cX15_closes 36 = .ok (.iconst 1, 1) := by decide +kernel
theorem dX15_closes_37 : decode cX15_closes 37 = .ok (.goto 4, 3) := by decide +kernel
theorem dX15_closes_40 : decode cX15_closes 40 = .ok (.iconst 0, 1) := by decide +kernel
theorem dX15_closes_41 : decode cX15_closes 41 = .ok (.istore_n 2, 1) := by decide +kernel
theorem dX15_closes_42 : decode cX15_closes 42 = .ok (.iload_n 2, 1) := by decide +kernel
theorem dX15_closes_43 : decode cX15_closes 43 = .ok (.ifCond .ne 8, 3) := by decide +kernel
theorem dX15_closes_46 : decode cX15_closes 46 = .ok (.aload_n 0, 1) := by decide +kernel
theorem dX15_closes_47 : decode cX15_closes 47 = .ok (.iload_n 1, 1) := by decide +kernel
theorem dX15_closes_48 : decode cX15_closes 48 = .ok (.invokevirtual 467, 3) := by decide +kernel
theorem dX15_closes_51 : decode cX15_closes 51 = .ok (.aload_n 0, 1) := by decide +kernel
theorem dX15_closes_52 : decode cX15_closes 52 = .ok (.getfield 417, 3) := by decide +kernel
theorem dX15_closes_55 : decode cX15_closes 55 = .ok (.iload_n 1, 1) := by decide +kernel
theorem dX15_closes_56 : decode cX15_closes 56 = .ok (.if_icmp .ne 5, 3) := by decide +kernel
theorem dX15_closes_59 : decode cX15_closes 59 = .ok (.iconst 0, 1) := by decide +kernel
theorem dX15_closes_60 : decode cX15_closes 60 = .ok (.ireturn, 1) := by decide +kernel
theorem dX15_closes_61 : decode cX15_closes 61 = .ok (.aload_n 0, 1) := by decide +kernel
theorem dX15_closes_62 : decode cX15_closes 62 = .ok (.getfield 38, 3) := by decide +kernel
theorem dX15_closes_65 : decode cX15_closes 65 = .ok (.aload_n 0, 1) := by decide +kernel
theorem dX15_closes_66 : decode cX15_closes 66 = .ok (.getfield 417, 3) := by decide +kernel
theorem dX15_closes_69 : decode cX15_closes 69 = .ok (.iconst 1, 1) := by decide +kernel
theorem dX15_closes_70 : decode cX15_closes 70 = .ok (.isub, 1) := by decide +kernel
theorem dX15_closes_71 : decode cX15_closes 71 = .ok (.iaload, 1) := by decide +kernel
theorem dX15_closes_72 : decode cX15_closes 72 = .ok (.istore_n 3, 1) := by decide +kernel
theorem dX15_closes_73 : decode cX15_closes 73 = .ok (.aload_n 0, 1) := by decide +kernel
theorem dX15_closes_74 : decode cX15_closes 74 = .ok (.bipush 58, 2) := by decide +kernel
theorem dX15_closes_76 : decode cX15_closes 76 = .ok (.invokevirtual 408, 3) := by decide +kernel
theorem dX15_closes_79 : decode cX15_closes 79 = .ok (.ifCond .eq 37, 3) := by decide +kernel
theorem dX15_closes_82 : decode cX15_closes 82 = .ok (.iload_n 3, 1) := by decide +kernel
theorem dX15_closes_83 : decode cX15_closes 83 = .ok (.iconst 3, 1) := by decide +kernel
theorem dX15_closes_84 : decode cX15_closes 84 = .ok (.if_icmp .ne 32, 3) := by decide +kernel
theorem dX15_closes_87 : decode cX15_closes 87 = .ok (.aload_n 0, 1) := by decide +kernel
theorem dX15_closes_88 : decode cX15_closes 88 = .ok (.getfield 38, 3) := by decide +kernel
theorem dX15_closes_91 : decode cX15_closes 91 = .ok (.aload_n 0, 1) := by decide +kernel
theorem dX15_closes_92 : decode cX15_closes 92 = .ok (.getfield 417, 3) := by decide +kernel
theorem dX15_closes_95 : decode cX15_closes 95 = .ok (.iconst 1, 1) := by decide +kernel
theorem dX15_closes_96 : decode cX15_closes 96 = .ok (.isub, 1) := by decide +kernel
theorem dX15_closes_97 : decode cX15_closes 97 = .ok (.iconst 4, 1) := by decide +kernel
theorem dX15_closes_98 : decode cX15_closes 98 = .ok (.iastore, 1) := by decide +kernel
theorem dX15_closes_99 : decode cX15_closes 99 = .ok (.aload_n 0, 1) := by decide +kernel
theorem dX15_closes_100 : decode cX15_closes 100 = .ok (.dup, 1) := by decide +kernel
theorem dX15_closes_101 : decode cX15_closes 101 = .ok (.getfield 326, 3) := by decide +kernel
theorem dX15_closes_104 : decode cX15_closes 104 = .ok (.iconst 1, 1) := by decide +kernel
theorem dX15_closes_105 : decode cX15_closes 105 = .ok (.iadd, 1) := by decide +kernel
theorem dX15_closes_106 : decode cX15_closes 106 = .ok (.putfield 326, 3) := by decide +kernel
theorem dX15_closes_109 : decode cX15_closes 109 = .ok (.aload_n 0, 1) := by decide +kernel
theorem dX15_closes_110 : decode cX15_closes 110 = .ok (.iconst 1, 1) := by decide +kernel
theorem dX15_closes_111 : decode cX15_closes 111 = .ok (.putfield 463, 3) := by decide +kernel
theorem dX15_closes_114 : decode cX15_closes 114 = .ok (.iconst 1, 1) := by decide +kernel
theorem dX15_closes_115 : decode cX15_closes 115 = .ok (.ireturn, 1) := by decide +kernel
theorem dX15_closes_116 : decode cX15_closes 116 = .ok (.aload_n 0, 1) := by decide +kernel
theorem dX15_closes_117 : decode cX15_closes 117 = .ok (.bipush 44, 2) := by decide +kernel
theorem dX15_closes_119 : decode cX15_closes 119 = .ok (.invokevirtual 408, 3) := by decide +kernel
theorem dX15_closes_122 : decode cX15_closes 122 = .ok (.ifCond .eq 99, 3) := by decide +kernel
theorem dX15_closes_125 : decode cX15_closes 125 = .ok (.iload_n 3, 1) := by decide +kernel
theorem dX15_closes_126 : decode cX15_closes 126 = .ok (.bipush 7, 2) := by decide +kernel
theorem dX15_closes_128 : decode cX15_closes 128 = .ok (.if_icmp .ne 7, 3) := by decide +kernel
theorem dX15_closes_131 : decode cX15_closes 131 = .ok (.iload_n 2, 1) := by decide +kernel
theorem dX15_closes_132 : decode cX15_closes 132 = .ok (.ifCond .eq 23, 3) := by decide +kernel
theorem dX15_closes_135 : decode cX15_closes 135 = .ok (.iload_n 3, 1) := by decide +kernel
theorem dX15_closes_136 : decode cX15_closes 136 = .ok (.bipush 9, 2) := by decide +kernel
theorem dX15_closes_138 : decode cX15_closes 138 = .ok (.if_icmp .ne 83, 3) := by decide +kernel
theorem dX15_closes_141 : decode cX15_closes 141 = .ok (.aload_n 0, 1) := by decide +kernel
theorem dX15_closes_142 : decode cX15_closes 142 = .ok (.getfield 47, 3) := by decide +kernel
theorem dX15_closes_145 : decode cX15_closes 145 = .ok (.aload_n 0, 1) := by decide +kernel
theorem dX15_closes_146 : decode cX15_closes 146 = .ok (.getfield 417, 3) := by decide +kernel
theorem dX15_closes_149 : decode cX15_closes 149 = .ok (.iconst 1, 1) := by decide +kernel
theorem dX15_closes_150 : decode cX15_closes 150 = .ok (.isub, 1) := by decide +kernel
theorem dX15_closes_151 : decode cX15_closes 151 = .ok (.iaload, 1) := by decide +kernel
theorem dX15_closes_152 : decode cX15_closes 152 = .ok (.ifCond .ne 69, 3) := by decide +kernel
theorem dX15_closes_155 : decode cX15_closes 155 = .ok (.aload_n 0, 1) := by decide +kernel
theorem dX15_closes_156 : decode cX15_closes 156 = .ok (.bipush 16, 2) := by decide +kernel
theorem dX15_closes_158 : decode cX15_closes 158 = .ok (.iload_n 3, 1) := by decide +kernel
theorem dX15_closes_159 : decode cX15_closes 159 = .ok (.bipush 7, 2) := by decide +kernel
theorem dX15_closes_161 : decode cX15_closes 161 = .ok (.if_icmp .ne 17, 3) := by decide +kernel
theorem dX15_closes_164 : decode cX15_closes 164 = .ok (.aload_n 0, 1) := by decide +kernel
theorem dX15_closes_165 : decode cX15_closes 165 = .ok (.getfield 41, 3) := by decide +kernel
theorem dX15_closes_168 : decode cX15_closes 168 = .ok (.aload_n 0, 1) := by decide +kernel
theorem dX15_closes_169 : decode cX15_closes 169 = .ok (.getfield 417, 3) := by decide +kernel
theorem dX15_closes_172 : decode cX15_closes 172 = .ok (.iconst 1, 1) := by decide +kernel
theorem dX15_closes_173 : decode cX15_closes 173 = .ok (.isub, 1) := by decide +kernel
theorem dX15_closes_174 : decode cX15_closes 174 = .ok (.iaload, 1) := by decide +kernel
theorem dX15_closes_175 : decode cX15_closes 175 = .ok (.goto 4, 3) := by decide +kernel
theorem dX15_closes_178 : decode cX15_closes 178 = .ok (.iconst (-1), 1) := by decide +kernel
theorem dX15_closes_179 : decode cX15_closes 179 = .ok (.iconst 0, 1) := by decide +kernel
theorem dX15_closes_180 : decode cX15_closes 180 = .ok (.aload_n 0, 1) := by decide +kernel
theorem dX15_closes_181 : decode cX15_closes 181 = .ok (.getfield 326, 3) := by decide +kernel
theorem dX15_closes_184 : decode cX15_closes 184 = .ok (.invokevirtual 423, 3) := by decide +kernel
theorem dX15_closes_187 : decode cX15_closes 187 = .ok (.istore 4, 2) := by decide +kernel
theorem dX15_closes_189 : decode cX15_closes 189 = .ok (.aload_n 0, 1) := by decide +kernel
theorem dX15_closes_190 : decode cX15_closes 190 = .ok (.getfield 47, 3) := by decide +kernel
theorem dX15_closes_193 : decode cX15_closes 193 = .ok (.aload_n 0, 1) := by decide +kernel
theorem dX15_closes_194 : decode cX15_closes 194 = .ok (.getfield 417, 3) := by decide +kernel
theorem dX15_closes_197 : decode cX15_closes 197 = .ok (.iconst 1, 1) := by decide +kernel
theorem dX15_closes_198 : decode cX15_closes 198 = .ok (.isub, 1) := by decide +kernel
theorem dX15_closes_199 : decode cX15_closes 199 = .ok (.dup2, 1) := by decide +kernel
theorem dX15_closes_200 : decode cX15_closes 200 = .ok (.iaload, 1) := by decide +kernel
theorem dX15_closes_201 : decode cX15_closes 201 = .ok (.iconst 1, 1) := by decide +kernel
theorem dX15_closes_202 : decode cX15_closes 202 = .ok (.iadd, 1) := by decide +kernel
theorem dX15_closes_203 : decode cX15_closes 203 = .ok (.iastore, 1) := by decide +kernel
theorem dX15_closes_204 : decode cX15_closes 204 = .ok (.aload_n 0, 1) := by decide +kernel
theorem dX15_closes_205 : decode cX15_closes 205 = .ok (.dup, 1) := by decide +kernel
theorem dX15_closes_206 : decode cX15_closes 206 = .ok (.getfield 326, 3) := by decide +kernel
theorem dX15_closes_209 : decode cX15_closes 209 = .ok (.iconst 1, 1) := by decide +kernel
theorem dX15_closes_210 : decode cX15_closes 210 = .ok (.iadd, 1) := by decide +kernel
theorem dX15_closes_211 : decode cX15_closes 211 = .ok (.putfield 326, 3) := by decide +kernel
theorem dX15_closes_214 : decode cX15_closes 214 = .ok (.aload_n 0, 1) := by decide +kernel
theorem dX15_closes_215 : decode cX15_closes 215 = .ok (.iconst 1, 1) := by decide +kernel
theorem dX15_closes_216 : decode cX15_closes 216 = .ok (.putfield 463, 3) := by decide +kernel
theorem dX15_closes_219 : decode cX15_closes 219 = .ok (.iconst 1, 1) := by decide +kernel
theorem dX15_closes_220 : decode cX15_closes 220 = .ok (.ireturn, 1) := by decide +kernel
theorem dX15_closes_221 : decode cX15_closes 221 = .ok (.aload_n 0, 1) := by decide +kernel
theorem dX15_closes_222 : decode cX15_closes 222 = .ok (.bipush 41, 2) := by decide +kernel
theorem dX15_closes_224 : decode cX15_closes 224 = .ok (.invokevirtual 408, 3) := by decide +kernel
theorem dX15_closes_227 : decode cX15_closes 227 = .ok (.ifCond .eq 41, 3) := by decide +kernel
theorem dX15_closes_230 : decode cX15_closes 230 = .ok (.iload_n 3, 1) := by decide +kernel
theorem dX15_closes_231 : decode cX15_closes 231 = .ok (.iconst 5, 1) := by decide +kernel
theorem dX15_closes_232 : decode cX15_closes 232 = .ok (.if_icmp .eq 51, 3) := by decide +kernel
theorem dX15_closes_235 : decode cX15_closes 235 = .ok (.iload_n 3, 1) := by decide +kernel
theorem dX15_closes_236 : decode cX15_closes 236 = .ok (.bipush 7, 2) := by decide +kernel
theorem dX15_closes_238 : decode cX15_closes 238 = .ok (.if_icmp .eq 45, 3) := by decide +kernel
theorem dX15_closes_241 : decode cX15_closes 241 = .ok (.iload_n 3, 1) := by decide +kernel
theorem dX15_closes_242 : decode cX15_closes 242 = .ok (.bipush 8, 2) := by decide +kernel
theorem dX15_closes_244 : decode cX15_closes 244 = .ok (.if_icmp .eq 39, 3) := by decide +kernel
theorem dX15_closes_247 : decode cX15_closes 247 = .ok (.iload_n 3, 1) := by decide +kernel
theorem dX15_closes_248 : decode cX15_closes 248 = .ok (.bipush 9, 2) := by decide +kernel
theorem dX15_closes_250 : decode cX15_closes 250 = .ok (.if_icmp .ne 18, 3) := by decide +kernel
theorem dX15_closes_253 : decode cX15_closes 253 = .ok (.aload_n 0, 1) := by decide +kernel
theorem dX15_closes_254 : decode cX15_closes 254 = .ok (.getfield 47, 3) := by decide +kernel
theorem dX15_closes_257 : decode cX15_closes 257 = .ok (.aload_n 0, 1) := by decide +kernel
theorem dX15_closes_258 : decode cX15_closes 258 = .ok (.getfield 417, 3) := by decide +kernel
theorem dX15_closes_261 : decode cX15_closes 261 = .ok (.iconst 1, 1) := by decide +kernel
theorem dX15_closes_262 : decode cX15_closes 262 = .ok (.isub, 1) := by decide +kernel
theorem dX15_closes_263 : decode cX15_closes 263 = .ok (.iaload, 1) := by decide +kernel
theorem dX15_closes_264 : decode cX15_closes 264 = .ok (.iconst 1, 1) := by decide +kernel
theorem dX15_closes_265 : decode cX15_closes 265 = .ok (.if_icmp .eq 18, 3) := by decide +kernel
theorem dX15_closes_268 : decode cX15_closes 268 = .ok (.aload_n 0, 1) := by decide +kernel
theorem dX15_closes_269 : decode cX15_closes 269 = .ok (.bipush 93, 2) := by decide +kernel
theorem dX15_closes_271 : decode cX15_closes 271 = .ok (.invokevirtual 408, 3) := by decide +kernel
theorem dX15_closes_274 : decode cX15_closes 274 = .ok (.ifCond .eq 13, 3) := by decide +kernel
theorem dX15_closes_277 : decode cX15_closes 277 = .ok (.iload_n 3, 1) := by decide +kernel
theorem dX15_closes_278 : decode cX15_closes 278 = .ok (.bipush 6, 2) := by decide +kernel
theorem dX15_closes_280 : decode cX15_closes 280 = .ok (.if_icmp .ne 7, 3) := by decide +kernel
theorem dX15_closes_283 : decode cX15_closes 283 = .ok (.iconst 1, 1) := by decide +kernel
theorem dX15_closes_284 : decode cX15_closes 284 = .ok (.goto 4, 3) := by decide +kernel
theorem dX15_closes_287 : decode cX15_closes 287 = .ok (.iconst 0, 1) := by decide +kernel
theorem dX15_closes_288 : decode cX15_closes 288 = .ok (.istore 4, 2) := by decide +kernel
theorem dX15_closes_290 : decode cX15_closes 290 = .ok (.iload 4, 2) := by decide +kernel
theorem dX15_closes_292 : decode cX15_closes 292 = .ok (.ifCond .ne 14, 3) := by decide +kernel
theorem dX15_closes_295 : decode cX15_closes 295 = .ok (.aload_n 0, 1) := by decide +kernel
theorem dX15_closes_296 : decode cX15_closes 296 = .ok (.iconst 1, 1) := by decide +kernel
theorem dX15_closes_297 : decode cX15_closes 297 = .ok (.aload_n 0, 1) := by decide +kernel
theorem dX15_closes_298 : decode cX15_closes 298 = .ok (.getfield 326, 3) := by decide +kernel
theorem dX15_closes_301 : decode cX15_closes 301 = .ok (.invokevirtual 390, 3) := by decide +kernel
theorem dX15_closes_304 : decode cX15_closes 304 = .ok (.iconst 0, 1) := by decide +kernel
theorem dX15_closes_305 : decode cX15_closes 305 = .ok (.ireturn, 1) := by decide +kernel
theorem dX15_closes_306 : decode cX15_closes 306 = .ok (.aload_n 0, 1) := by decide +kernel
theorem dX15_closes_307 : decode cX15_closes 307 = .ok (.dup, 1) := by decide +kernel
theorem dX15_closes_308 : decode cX15_closes 308 = .ok (.getfield 326, 3) := by decide +kernel
theorem dX15_closes_311 : decode cX15_closes 311 = .ok (.iconst 1, 1) := by decide +kernel
theorem dX15_closes_312 : decode cX15_closes 312 = .ok (.iadd, 1) := by decide +kernel
theorem dX15_closes_313 : decode cX15_closes 313 = .ok (.putfield 326, 3) := by decide +kernel
theorem dX15_closes_316 : decode cX15_closes 316 = .ok (.aload_n 0, 1) := by decide +kernel
theorem dX15_closes_317 : decode cX15_closes 317 = .ok (.dup, 1) := by decide +kernel
theorem dX15_closes_318 : decode cX15_closes 318 = .ok (.getfield 417, 3) := by decide +kernel
theorem dX15_closes_321 : decode cX15_closes 321 = .ok (.iconst 1, 1) := by decide +kernel
theorem dX15_closes_322 : decode cX15_closes 322 = .ok (.isub, 1) := by decide +kernel
theorem dX15_closes_323 : decode cX15_closes 323 = .ok (.putfield 417, 3) := by decide +kernel
theorem dX15_closes_326 : decode cX15_closes 326 = .ok (.aload_n 0, 1) := by decide +kernel
theorem dX15_closes_327 : decode cX15_closes 327 = .ok (.dup, 1) := by decide +kernel
theorem dX15_closes_328 : decode cX15_closes 328 = .ok (.getfield 414, 3) := by decide +kernel
theorem dX15_closes_331 : decode cX15_closes 331 = .ok (.iconst 1, 1) := by decide +kernel
theorem dX15_closes_332 : decode cX15_closes 332 = .ok (.isub, 1) := by decide +kernel
theorem dX15_closes_333 : decode cX15_closes 333 = .ok (.putfield 414, 3) := by decide +kernel
theorem dX15_closes_336 : decode cX15_closes 336 = .ok (.aload_n 0, 1) := by decide +kernel
theorem dX15_closes_337 : decode cX15_closes 337 = .ok (.getfield 44, 3) := by decide +kernel
theorem dX15_closes_340 : decode cX15_closes 340 = .ok (.aload_n 0, 1) := by decide +kernel
theorem dX15_closes_341 : decode cX15_closes 341 = .ok (.getfield 417, 3) := by decide +kernel
theorem dX15_closes_344 : decode cX15_closes 344 = .ok (.iaload, 1) := by decide +kernel
theorem dX15_closes_345 : decode cX15_closes 345 = .ok (.istore 5, 2) := by decide +kernel
theorem dX15_closes_347 : decode cX15_closes 347 = .ok (.iconst 0, 1) := by decide +kernel
theorem dX15_closes_348 : decode cX15_closes 348 = .ok (.istore 6, 2) := by decide +kernel
theorem dX15_closes_350 : decode cX15_closes 350 = .ok (.iload_n 3, 1) := by decide +kernel
theorem dX15_closes_351 : decode cX15_closes 351 = .ok (.iconst 5, 1) := by decide +kernel
theorem dX15_closes_352 : decode cX15_closes 352 = .ok (.if_icmp .ne 18, 3) := by decide +kernel
theorem dX15_closes_355 : decode cX15_closes 355 = .ok (.aload_n 0, 1) := by decide +kernel
theorem dX15_closes_356 : decode cX15_closes 356 = .ok (.bipush 15, 2) := by decide +kernel
theorem dX15_closes_358 : decode cX15_closes 358 = .ok (.iconst 0, 1) := by decide +kernel
theorem dX15_closes_359 : decode cX15_closes 359 = .ok (.iconst 0, 1) := by decide +kernel
theorem dX15_closes_360 : decode cX15_closes 360 = .ok (.iload 5, 2) := by decide +kernel
theorem dX15_closes_362 : decode cX15_closes 362 = .ok (.invokevirtual 423, 3) := by decide +kernel
theorem dX15_closes_365 : decode cX15_closes 365 = .ok (.istore 6, 2) := by decide +kernel
theorem dX15_closes_367 : decode cX15_closes 367 = .ok (.goto 148, 3) := by decide +kernel
theorem dX15_closes_370 : decode cX15_closes 370 = .ok (.iload_n 3, 1) := by decide +kernel
theorem dX15_closes_371 : decode cX15_closes 371 = .ok (.bipush 6, 2) := by decide +kernel
theorem dX15_closes_373 : decode cX15_closes 373 = .ok (.if_icmp .ne 26, 3) := by decide +kernel
theorem dX15_closes_376 : decode cX15_closes 376 = .ok (.aload_n 0, 1) := by decide +kernel
theorem dX15_closes_377 : decode cX15_closes 377 = .ok (.bipush 7, 2) := by decide +kernel
theorem dX15_closes_379 : decode cX15_closes 379 = .ok (.aload_n 0, 1) := by decide +kernel
theorem dX15_closes_380 : decode cX15_closes 380 = .ok (.getfield 41, 3) := by decide +kernel
theorem dX15_closes_383 : decode cX15_closes 383 = .ok (.aload_n 0, 1) := by decide +kernel
theorem dX15_closes_384 : decode cX15_closes 384 = .ok (.getfield 417, 3) := by decide +kernel
theorem dX15_closes_387 : decode cX15_closes 387 = .ok (.iaload, 1) := by decide +kernel
theorem dX15_closes_388 : decode cX15_closes 388 = .ok (.iconst 0, 1) := by decide +kernel
theorem dX15_closes_389 : decode cX15_closes 389 = .ok (.iload 5, 2) := by decide +kernel
theorem dX15_closes_391 : decode cX15_closes 391 = .ok (.invokevirtual 423, 3) := by decide +kernel
theorem dX15_closes_394 : decode cX15_closes 394 = .ok (.istore 6, 2) := by decide +kernel
theorem dX15_closes_396 : decode cX15_closes 396 = .ok (.goto 119, 3) := by decide +kernel
theorem dX15_closes_399 : decode cX15_closes 399 = .ok (.iload_n 3, 1) := by decide +kernel
theorem dX15_closes_400 : decode cX15_closes 400 = .ok (.bipush 7, 2) := by decide +kernel
theorem dX15_closes_402 : decode cX15_closes 402 = .ok (.if_icmp .ne 90, 3) := by decide +kernel
theorem dX15_closes_405 : decode cX15_closes 405 = .ok (.aload_n 0, 1) := by decide +kernel
theorem dX15_closes_406 : decode cX15_closes 406 = .ok (.getfield 28, 3) := by decide +kernel
theorem dX15_closes_409 : decode cX15_closes 409 = .ok (.aload_n 0, 1) := by decide +kernel
theorem dX15_closes_410 : decode cX15_closes 410 = .ok (.getfield 41, 3) := by decide +kernel
theorem dX15_closes_413 : decode cX15_closes 413 = .ok (.aload_n 0, 1) := by decide +kernel
theorem dX15_closes_414 : decode cX15_closes 414 = .ok (.getfield 417, 3) := by decide +kernel
theorem dX15_closes_417 : decode cX15_closes 417 = .ok (.iaload, 1) := by decide +kernel
theorem dX15_closes_418 : decode cX15_closes 418 = .ok (.iload_n 2, 1) := by decide +kernel
theorem dX15_closes_419 : decode cX15_closes 419 = .ok (.ifCond .eq 7, 3) := by decide +kernel
theorem dX15_closes_422 : decode cX15_closes 422 = .ok (.iconst 0, 1) := by decide +kernel
theorem dX15_closes_423 : decode cX15_closes 423 = .ok (.goto 14, 3) := by decide +kernel
theorem dX15_closes_426 : decode cX15_closes 426 = .ok (.aload_n 0, 1) := by decide +kernel
theorem dX15_closes_427 : decode cX15_closes 427 = .ok (.getfield 47, 3) := by decide +kernel
theorem dX15_closes_430 : decode cX15_closes 430 = .ok (.aload_n 0, 1) := by decide +kernel
theorem dX15_closes_431 : decode cX15_closes 431 = .ok (.getfield 417, 3) := by decide +kernel
theorem dX15_closes_434 : decode cX15_closes 434 = .ok (.iaload, 1) := by decide +kernel
theorem dX15_closes_435 : decode cX15_closes 435 = .ok (.iconst 1, 1) := by decide +kernel
theorem dX15_closes_436 : decode cX15_closes 436 = .ok (.iadd, 1) := by decide +kernel
theorem dX15_closes_437 : decode cX15_closes 437 = .ok (.iastore, 1) := by decide +kernel
theorem dX15_closes_438 : decode cX15_closes 438 = .ok (.iload_n 2, 1) := by decide +kernel
theorem dX15_closes_439 : decode cX15_closes 439 = .ok (.ifCond .ne 25, 3) := by decide +kernel
theorem dX15_closes_442 : decode cX15_closes 442 = .ok (.aload_n 0, 1) := by decide +kernel
theorem dX15_closes_443 : decode cX15_closes 443 = .ok (.bipush 16, 2) := by decide +kernel
theorem dX15_closes_445 : decode cX15_closes 445 = .ok (.aload_n 0, 1) := by decide +kernel
theorem dX15_closes_446 : decode cX15_closes 446 = .ok (.getfield 41, 3) := by decide +kernel
theorem dX15_closes_449 : decode cX15_closes 449 = .ok (.aload_n 0, 1) := by decide +kernel
theorem dX15_closes_450 : decode cX15_closes 450 = .ok (.getfield 417, 3) := by decide +kernel
theorem dX15_closes_453 : decode cX15_closes 453 = .ok (.iaload, 1) := by decide +kernel
theorem dX15_closes_454 : decode cX15_closes 454 = .ok (.iconst 0, 1) := by decide +kernel
theorem dX15_closes_455 : decode cX15_closes 455 = .ok (.aload_n 0, 1) := by decide +kernel
theorem dX15_closes_456 : decode cX15_closes 456 = .ok (.getfield 326, 3) := by decide +kernel
theorem dX15_closes_459 : decode cX15_closes 459 = .ok (.invokevirtual 423, 3) := by decide +kernel
theorem dX15_closes_462 : decode cX15_closes 462 = .ok (.istore 6, 2) := by decide +kernel
theorem dX15_closes_464 : decode cX15_closes 464 = .ok (.aload_n 0, 1) := by decide +kernel
