set_option maxRecDepth 100000
theorem dX15_operand_190 : decode cX15_operand 190 = .ok (.iconst 1, 1) := by decide +kernel
theorem dX15_operand_191 : decode cX15_operand 191 = .ok (.iadd, 1) := by decide +kernel
theorem dX15_operand_192 : decode cX15_operand 192 = .ok (.iastore, 1) := by decide +kernel
theorem dX15_operand_193 : decode cX15_operand 193 = .ok (.aload_n 0, 1) := by decide +kernel
theorem dX15_operand_194 : decode cX15_operand 194 = .ok (.dup, 1) := by decide +kernel
theorem dX15_operand_195 : decode cX15_operand 195 = .ok (.getfield 681, 3) := by decide +kernel
theorem dX15_operand_198 : decode cX15_operand 198 = .ok (.iconst 1, 1) := by decide +kernel
theorem dX15_operand_199 : decode cX15_operand 199 = .ok (.iadd, 1) := by decide +kernel
theorem dX15_operand_200 : decode cX15_operand 200 = .ok (.putfield 681, 3) := by decide +kernel
theorem dX15_operand_203 : decode cX15_operand 203 = .ok (.aload_n 0, 1) := by decide +kernel
theorem dX15_operand_204 : decode cX15_operand 204 = .ok (.iload_n 2, 1) := by decide +kernel
theorem dX15_operand_205 : decode cX15_operand 205 = .ok (.invokevirtual 706, 3) := by decide +kernel
theorem dX15_operand_208 : decode cX15_operand 208 = .ok (.ireturn, 1) := by decide +kernel
theorem dX15_operand_209 : decode cX15_operand 209 = .ok (.aload_n 0, 1) := by decide +kernel
theorem dX15_operand_210 : decode cX15_operand 210 = .ok (.iconst 1, 1) := by decide +kernel
theorem dX15_operand_211 : decode cX15_operand 211 = .ok (.invokevirtual 709, 3) := by decide +kernel
theorem dX15_operand_214 : decode cX15_operand 214 = .ok (.aload_n 0, 1) := by decide +kernel
theorem dX15_operand_215 : decode cX15_operand 215 = .ok (.lconst 0, 1) := by decide +kernel
theorem dX15_operand_216 : decode cX15_operand 216 = .ok (.aload_n 0, 1) := by decide +kernel
theorem dX15_operand_217 : decode cX15_operand 217 = .ok (.getfield 303, 3) := by decide +kernel
theorem dX15_operand_220 : decode cX15_operand 220 = .ok (.invokevirtual 693, 3) := by decide +kernel
theorem dX15_operand_223 : decode cX15_operand 223 = .ok (.aload_n 0, 1) := by decide +kernel
theorem dX15_operand_224 : decode cX15_operand 224 = .ok (.getfield 167, 3) := by decide +kernel
theorem dX15_operand_227 : decode cX15_operand 227 = .ok (.iconst 0, 1) := by decide +kernel
theorem dX15_operand_228 : decode cX15_operand 228 = .ok (.aload_n 0, 1) := by decide +kernel
theorem dX15_operand_229 : decode cX15_operand 229 = .ok (.getfield 161, 3) := by decide +kernel
theorem dX15_operand_232 : decode cX15_operand 232 = .ok (.iconst 0, 1) := by decide +kernel
theorem dX15_operand_233 : decode cX15_operand 233 = .ok (.iaload, 1) := by decide +kernel
theorem dX15_operand_234 : decode cX15_operand 234 = .ok (.iastore, 1) := by decide +kernel
theorem dX15_operand_235 : decode cX15_operand 235 = .ok (.aload_n 0, 1) := by decide +kernel
theorem dX15_operand_236 : decode cX15_operand 236 = .ok (.aload_n 0, 1) := by decide +kernel
theorem dX15_operand_237 : decode cX15_operand 237 = .ok (.getfield 303, 3) := by decide +kernel
theorem dX15_operand_240 : decode cX15_operand 240 = .ok (.invokevirtual 697, 3) := by decide +kernel
theorem dX15_operand_243 : decode cX15_operand 243 = .ok (.goto 192, 3) := by decide +kernel
theorem dX15_operand_246 : decode cX15_operand 246 = .ok (.aload_n 0, 1) := by decide +kernel
theorem dX15_operand_247 : decode cX15_operand 247 = .ok (.aload_n 0, 1) := by decide +kernel
theorem dX15_operand_248 : decode cX15_operand 248 = .ok (.getfield 649, 3) := by decide +kernel
theorem dX15_operand_251 : decode cX15_operand 251 = .ok (.iconst 1, 1) := by decide +kernel
theorem dX15_operand_252 : decode cX15_operand 252 = .ok (.isub, 1) := by decide +kernel
theorem dX15_operand_253 : decode cX15_operand 253 = .ok (.invokevirtual 712, 3) := by decide +kernel
theorem dX15_operand_256 : decode cX15_operand 256 = .ok (.lstore_n 2, 1) := by decide +kernel
theorem dX15_operand_257 : decode cX15_operand 257 = .ok (.lload_n 2, 1) := by decide +kernel
theorem dX15_operand_258 : decode cX15_operand 258 = .ok (.aload_n 0, 1) := by decide +kernel
theorem dX15_operand_259 : decode cX15_operand 259 = .ok (.getfield 303, 3) := by decide +kernel
theorem dX15_operand_262 : decode cX15_operand 262 = .ok (.i2l, 1) := by decide +kernel
theorem dX15_operand_263 : decode cX15_operand 263 = .ok (.lcmp, 1) := by decide +kernel
theorem dX15_operand_264 : decode cX15_operand 264 = .ok (.ifCond .lt 18, 3) := by decide +kernel
theorem dX15_operand_267 : decode cX15_operand 267 = .ok (.aload_n 0, 1) := by decide +kernel
theorem dX15_operand_268 : decode cX15_operand 268 = .ok (.bipush 7, 2) := by decide +kernel
theorem dX15_operand_270 : decode cX15_operand 270 = .ok (.aload_n 0, 1) := by decide +kernel
theorem dX15_operand_271 : decode cX15_operand 271 = .ok (.getfield 108, 3) := by decide +kernel
theorem dX15_operand_274 : decode cX15_operand 274 = .ok (.iload_n 1, 1) := by decide +kernel
theorem dX15_operand_275 : decode cX15_operand 275 = .ok (.iaload, 1) := by decide +kernel
theorem dX15_operand_276 : decode cX15_operand 276 = .ok (.invokevirtual 390, 3) := by decide +kernel
theorem dX15_operand_279 : decode cX15_operand 279 = .ok (.goto 156, 3) := by decide +kernel
theorem dX15_operand_282 : decode cX15_operand 282 = .ok (.aload_n 0, 1) := by decide +kernel
theorem dX15_operand_283 : decode cX15_operand 283 = .ok (.dup, 1) := by decide +kernel
theorem dX15_operand_284 : decode cX15_operand 284 = .ok (.getfield 649, 3) := by decide +kernel
theorem dX15_operand_287 : decode cX15_operand 287 = .ok (.iconst 1, 1) := by decide +kernel
theorem dX15_operand_288 : decode cX15_operand 288 = .ok (.isub, 1) := by decide +kernel
theorem dX15_operand_289 : decode cX15_operand 289 = .ok (.putfield 649, 3) := by decide +kernel
theorem dX15_operand_292 : decode cX15_operand 292 = .ok (.aload_n 0, 1) := by decide +kernel
theorem dX15_operand_293 : decode cX15_operand 293 = .ok (.aload_n 0, 1) := by decide +kernel
theorem dX15_operand_294 : decode cX15_operand 294 = .ok (.getfield 303, 3) := by decide +kernel
theorem dX15_operand_297 : decode cX15_operand 297 = .ok (.invokevirtual 709, 3) := by decide +kernel
theorem dX15_operand_300 : decode cX15_operand 300 = .ok (.aload_n 0, 1) := by decide +kernel
theorem dX15_operand_301 : decode cX15_operand 301 = .ok (.getfield 167, 3) := by decide +kernel
theorem dX15_operand_304 : decode cX15_operand 304 = .ok (.iconst 0, 1) := by decide +kernel
theorem dX15_operand_305 : decode cX15_operand 305 = .ok (.aload_n 0, 1) := by decide +kernel
theorem dX15_operand_306 : decode cX15_operand 306 = .ok (.getfield 161, 3) := by decide +kernel
theorem dX15_operand_309 : decode cX15_operand 309 = .ok (.lload_n 2, 1) := by decide +kernel
theorem dX15_operand_310 : decode cX15_operand 310 = .ok (.l2i, 1) := by decide +kernel
theorem dX15_operand_311 : decode cX15_operand 311 = .ok (.iaload, 1) := by decide +kernel
theorem dX15_operand_312 : decode cX15_operand 312 = .ok (.iastore, 1) := by decide +kernel
theorem dX15_operand_313 : decode cX15_operand 313 = .ok (.aload_n 0, 1) := by decide +kernel
theorem dX15_operand_314 : decode cX15_operand 314 = .ok (.iconst 1, 1) := by decide +kernel
theorem dX15_operand_315 : decode cX15_operand 315 = .ok (.invokevirtual 697, 3) := by decide +kernel
theorem dX15_operand_318 : decode cX15_operand 318 = .ok (.goto 117, 3) := by decide +kernel
theorem dX15_operand_321 : decode cX15_operand 321 = .ok (.aload_n 0, 1) := by decide +kernel
theorem dX15_operand_322 : decode cX15_operand 322 = .ok (.aload_n 0, 1) := by decide +kernel
theorem dX15_operand_323 : decode cX15_operand 323 = .ok (.getfield 25, 3) := by decide +kernel
theorem dX15_operand_326 : decode cX15_operand 326 = .ok (.iload_n 1, 1) := by decide +kernel
theorem dX15_operand_327 : decode cX15_operand 327 = .ok (.iaload, 1) := by decide +kernel
theorem dX15_operand_328 : decode cX15_operand 328 = .ok (.invokevirtual 716, 3) := by decide +kernel
theorem dX15_operand_331 : decode cX15_operand 331 = .ok (.goto 104, 3) := by decide +kernel
theorem dX15_operand_334 : decode cX15_operand 334 = .ok (.aload_n 0, 1) := by decide +kernel
theorem dX15_operand_335 : decode cX15_operand 335 = .ok (.iload_n 1, 1) := by decide +kernel
theorem dX15_operand_336 : decode cX15_operand 336 = .ok (.invokevirtual 719, 3) := by decide +kernel
theorem dX15_operand_339 : decode cX15_operand 339 = .ok (.goto 96, 3) := by decide +kernel
theorem dX15_operand_342 : decode cX15_operand 342 = .ok (.aload_n 0, 1) := by decide +kernel
theorem dX15_operand_343 : decode cX15_operand 343 = .ok (.aload_n 0, 1) := by decide +kernel
theorem dX15_operand_344 : decode cX15_operand 344 = .ok (.getfield 28, 3) := by decide +kernel
theorem dX15_operand_347 : decode cX15_operand 347 = .ok (.iload_n 1, 1) := by decide +kernel
theorem dX15_operand_348 : decode cX15_operand 348 = .ok (.iaload, 1) := by decide +kernel
theorem dX15_operand_349 : decode cX15_operand 349 = .ok (.invokevirtual 666, 3) := by decide +kernel
theorem dX15_operand_352 : decode cX15_operand 352 = .ok (.istore_n 2, 1) := by decide +kernel
theorem dX15_operand_353 : decode cX15_operand 353 = .ok (.aload_n 0, 1) := by decide +kernel
theorem dX15_operand_354 : decode cX15_operand 354 = .ok (.iload_n 2, 1) := by decide +kernel
theorem dX15_operand_355 : decode cX15_operand 355 = .ok (.invokevirtual 722, 3) := by decide +kernel
theorem dX15_operand_358 : decode cX15_operand 358 = .ok (.aload_n 0, 1) := by decide +kernel
theorem dX15_operand_359 : decode cX15_operand 359 = .ok (.iload_n 2, 1) := by decide +kernel
theorem dX15_operand_360 : decode cX15_operand 360 = .ok (.invokevirtual 709, 3) := by decide +kernel
theorem dX15_operand_363 : decode cX15_operand 363 = .ok (.aload_n 0, 1) := by decide +kernel
theorem dX15_operand_364 : decode cX15_operand 364 = .ok (.dup, 1) := by decide +kernel
theorem dX15_operand_365 : decode cX15_operand 365 = .ok (.getfield 649, 3) := by decide +kernel
theorem dX15_operand_368 : decode cX15_operand 368 = .ok (.iconst 1, 1) := by decide +kernel
theorem dX15_operand_369 : decode cX15_operand 369 = .ok (.isub, 1) := by decide +kernel
theorem dX15_operand_370 : decode cX15_operand 370 = .ok (.putfield 649, 3) := by decide +kernel
theorem dX15_operand_373 : decode cX15_operand 373 = .ok (.aload_n 0, 1) := by decide +kernel
theorem dX15_operand_374 : decode cX15_operand 374 = .ok (.getfield 158, 3) := by decide +kernel
theorem dX15_operand_377 : decode cX15_operand 377 = .ok (.bipush 32, 2) := by decide +kernel
theorem dX15_operand_379 : decode cX15_operand 379 = .ok (.aload_n 0, 1) := by decide +kernel
theorem dX15_operand_380 : decode cX15_operand 380 = .ok (.getfield 649, 3) := by decide +kernel
theorem dX15_operand_383 : decode cX15_operand 383 = .ok (.imul, 1) := by decide +kernel
theorem dX15_operand_384 : decode cX15_operand 384 = .ok (.iaload, 1) := by decide +kernel
theorem dX15_operand_385 : decode cX15_operand 385 = .ok (.istore_n 3, 1) := by decide +kernel
theorem dX15_operand_386 : decode cX15_operand 386 = .ok (.iconst 0, 1) := by decide +kernel
theorem dX15_operand_387 : decode cX15_operand 387 = .ok (.istore 4, 2) := by decide +kernel
theorem dX15_operand_389 : decode cX15_operand 389 = .ok (.iload 4, 2) := by decide +kernel
theorem dX15_operand_391 : decode cX15_operand 391 = .ok (.iload_n 2, 1) := by decide +kernel
theorem dX15_operand_392 : decode cX15_operand 392 = .ok (.if_icmp .ge 35, 3) := by decide +kernel
theorem dX15_operand_395 : decode cX15_operand 395 = .ok (.aload_n 0, 1) := by decide +kernel
theorem dX15_operand_396 : decode cX15_operand 396 = .ok (.getfield 167, 3) := by decide +kernel
theorem dX15_operand_399 : decode cX15_operand 399 = .ok (.iload 4, 2) := by decide +kernel
theorem dX15_operand_401 : decode cX15_operand 401 = .ok (.aload_n 0, 1) := by decide +kernel
theorem dX15_operand_402 : decode cX15_operand 402 = .ok (.iload_n 3, 1) := by decide +kernel
theorem dX15_operand_403 : decode cX15_operand 403 = .ok (.aload_n 0, 1) := by decide +kernel
theorem dX15_operand_404 : decode cX15_operand 404 = .ok (.getfield 161, 3) := by decide +kernel
theorem dX15_operand_407 : decode cX15_operand 407 = .ok (.iload 4, 2) := by decide +kernel
theorem dX15_operand_409 : decode cX15_operand 409 = .ok (.iaload, 1) := by decide +kernel
theorem dX15_operand_410 : decode cX15_operand 410 = .ok (.aload_n 0, 1) := by decide +kernel
theorem dX15_operand_411 : decode cX15_operand 411 = .ok (.getfield 164, 3) := by decide +kernel
theorem dX15_operand_414 : decode cX15_operand 414 = .ok (.iload 4, 2) := by decide +kernel
theorem dX15_operand_416 : decode cX15_operand 416 = .ok (.iaload, 1) := by decide +kernel
theorem dX15_operand_417 : decode cX15_operand 417 = .ok (.invokevirtual 655, 3) := by decide +kernel
theorem dX15_operand_420 : decode cX15_operand 420 = .ok (.iastore, 1) := by decide +kernel
theorem dX15_operand_421 : decode cX15_operand 421 = .ok (.iinc 4 1, 3) := by decide +kernel
theorem dX15_operand_424 : decode cX15_operand 424 = .ok (.goto (-35), 3) := by decide +kernel
theorem dX15_operand_427 : decode cX15_operand 427 = .ok (.aload_n 0, 1) := by decide +kernel
theorem dX15_operand_428 : decode cX15_operand 428 = .ok (.iload_n 2, 1) := by decide +kernel
theorem dX15_operand_429 : decode cX15_operand 429 = .ok (.invokevirtual 697, 3) := by decide +kernel
theorem dX15_operand_432 : decode cX15_operand 432 = .ok (.goto 3, 3) := by decide +kernel
theorem dX15_operand_435 : decode cX15_operand 435 = .ok (.iload_n 1, 1) := by decide +kernel
theorem dX15_operand_436 : decode cX15_operand 436 = .ok (.iconst 1, 1) := by decide +kernel
theorem dX15_operand_437 : decode cX15_operand 437 = .ok (.iadd, 1) := by decide +kernel
theorem dX15_operand_438 : decode cX15_operand 438 = .ok (.ireturn, 1) := by decide +kernel
theorem dX15_step_0 : decode cX15_step 0 = .ok (.aload_n 0, 1) := by decide +kernel
theorem dX15_step_1 : decode cX15_step 1 = .ok (.getfield 659, 3) := by decide +kernel
theorem dX15_step_4 : decode cX15_step 4 = .ok (.ldc_w 662, 3) := by decide +kernel
theorem dX15_step_7 : decode cX15_step 7 = .ok (.if_icmp .ne 13, 3) := by decide +kernel
theorem dX15_step_10 : decode cX15_step 10 = .ok (.aload_n 0, 1) := by decide +kernel
theorem dX15_step_11 : decode cX15_step 11 = .ok (.bipush 8, 2) := by decide +kernel
theorem dX15_step_13 : decode cX15_step 13 = .ok (.aload_n 0, 1) := by decide +kernel
theorem dX15_step_14 : decode cX15_step 14 = .ok (.invokevirtual 627, 3) := by decide +kernel
theorem dX15_step_17 : decode cX15_step 17 = .ok (.invokevirtual 390, 3) := by decide +kernel
theorem dX15_step_20 : decode cX15_step 20 = .ok (.aload_n 0, 1) := by decide +kernel
theorem dX15_step_21 : decode cX15_step 21 = .ok (.dup, 1) := by decide +kernel
theorem dX15_step_22 : decode cX15_step 22 = .ok (.getfield 659, 3) := by decide +kernel
theorem dX15_step_25 : decode cX15_step 25 = .ok (.iconst 1, 1) := by decide +kernel
theorem dX15_step_26 : decode cX15_step 26 = .ok (.iadd, 1) := by decide +kernel
theorem dX15_step_27 : decode cX15_step 27 = .ok (.putfield 659, 3) := by decide +kernel
theorem dX15_step_30 : decode cX15_step 30 = .ok (.return_, 1) := by decide +kernel
theorem dX15_statementPlace_0 : decode cX15_statementPlace 0 = .ok (.aload_n 0, 1) := by decide +kernel
theorem dX15_statementPlace_1 : decode cX15_statementPlace 1 = .ok (.getfield 621, 3) := by decide +kernel
theorem dX15_statementPlace_4 : decode cX15_statementPlace 4 = .ok (.ifCond .ne 7, 3) := by decide +kernel
theorem dX15_statementPlace_7 : decode cX15_statementPlace 7 = .ok (.iconst 0, 1) := by decide +kernel
theorem dX15_statementPlace_8 : decode cX15_statementPlace 8 = .ok (.goto 14, 3) := by decide +kernel
theorem dX15_statementPlace_11 : decode cX15_statementPlace 11 = .ok (.aload_n 0, 1) := by decide +kernel
theorem dX15_statementPlace_12 : decode cX15_statementPlace 12 = .ok (.getfield 185, 3) := by decide +kernel
theorem dX15_statementPlace_15 : decode cX15_statementPlace 15 = .ok (.aload_n 0, 1) := by decide +kernel
theorem dX15_statementPlace_16 : decode cX15_statementPlace 16 = .ok (.getfield 621, 3) := by decide +kernel
theorem dX15_statementPlace_19 : decode cX15_statementPlace 19 = .ok (.iconst 1, 1) := by decide +kernel
theorem dX15_statementPlace_20 : decode cX15_statementPlace 20 = .ok (.isub, 1) := by decide +kernel
theorem dX15_statementPlace_21 : decode cX15_statementPlace 21 = .ok (.iaload, 1) := by decide +kernel
theorem dX15_statementPlace_22 : decode cX15_statementPlace 22 = .ok (.ireturn, 1) := by decide +kernel
theorem dX15_constantZ_0 : decode cX15_constantZ 0 = .ok (.iconst 0, 1) := by decide +kernel
theorem dX15_constantZ_1 : decode cX15_constantZ 1 = .ok (.istore 4, 2) := by decide +kernel
theorem dX15_constantZ_3 : decode cX15_constantZ 3 = .ok (.iload 4, 2) := by decide +kernel
theorem dX15_constantZ_5 : decode cX15_constantZ 5 = .ok (.iload_n 3, 1) := by decide +kernel
theorem dX15_constantZ_6 : decode cX15_constantZ 6 = .ok (.if_icmp .ge 33, 3) := by decide +kernel
theorem dX15_constantZ_9 : decode cX15_constantZ 9 = .ok (.aload_n 0, 1) := by decide +kernel
theorem dX15_constantZ_10 : decode cX15_constantZ 10 = .ok (.getfield 167, 3) := by decide +kernel
theorem dX15_constantZ_13 : decode cX15_constantZ 13 = .ok (.iload 4, 2) := by decide +kernel
theorem dX15_constantZ_15 : decode cX15_constantZ 15 = .ok (.lload_n 1, 1) := by decide +kernel
theorem dX15_constantZ_16 : decode cX15_constantZ 16 = .ok (.iload 4, 2) := by decide +kernel
theorem dX15_constantZ_18 : decode cX15_constantZ 18 = .ok (.lshr, 1) := by decide +kernel
theorem dX15_constantZ_19 : decode cX15_constantZ 19 = .ok (.lconst 1, 1) := by decide +kernel
theorem dX15_constantZ_20 : decode cX15_constantZ 20 = .ok (.land, 1) := by decide +kernel
theorem dX15_constantZ_21 : decode cX15_constantZ 21 = .ok (.lconst 1, 1) := by decide +kernel
theorem dX15_constantZ_22 : decode cX15_constantZ 22 = .ok (.lcmp, 1) := by decide +kernel
theorem dX15_constantZ_23 : decode cX15_constantZ 23 = .ok (.ifCond .ne 7, 3) := by decide +kernel
theorem dX15_constantZ_26 : decode cX15_constantZ 26 = .ok (.iconst (-1), 1) := by decide +kernel
theorem dX15_constantZ_27 : decode cX15_constantZ 27 = .ok (.goto 5, 3) := by decide +kernel
theorem dX15_constantZ_30 : decode cX15_constantZ 30 = .ok (.bipush (-2), 2) := by decide +kernel
theorem dX15_constantZ_32 : decode cX15_constantZ 32 = .ok (.iastore, 1) := by decide +kernel
theorem dX15_constantZ_33 : decode cX15_constantZ 33 = .ok (.iinc 4 1, 3) := by decide +kernel
theorem dX15_constantZ_36 : decode cX15_constantZ 36 = .ok (.goto (-33), 3) := by decide +kernel
theorem dX15_constantZ_39 : decode cX15_constantZ 39 = .ok (.return_, 1) := by decide +kernel
theorem dX15_pushZ_0 : decode cX15_pushZ 0 = .ok (.iconst 0, 1) := by decide +kernel
theorem dX15_pushZ_1 : decode cX15_pushZ 1 = .ok (.istore_n 2, 1) := by decide +kernel
theorem dX15_pushZ_2 : decode cX15_pushZ 2 = .ok (.iload_n 2, 1) := by decide +kernel
theorem dX15_pushZ_3 : decode cX15_pushZ 3 = .ok (.iload_n 1, 1) := by decide +kernel
theorem dX15_pushZ_4 : decode cX15_pushZ 4 = .ok (.if_icmp .ge 29, 3) := by decide +kernel
theorem dX15_pushZ_7 : decode cX15_pushZ 7 = .ok (.aload_n 0, 1) := by decide +kernel
theorem dX15_pushZ_8 : decode cX15_pushZ 8 = .ok (.getfield 158, 3) := by decide +kernel
theorem dX15_pushZ_11 : decode cX15_pushZ 11 = .ok (.bipush 32, 2) := by decide +kernel
theorem dX15_pushZ_13 : decode cX15_pushZ 13 = .ok (.aload_n 0, 1) := by decide +kernel
theorem dX15_pushZ_14 : decode cX15_pushZ 14 = .ok (.getfield 649, 3) := by decide +kernel
theorem dX15_pushZ_17 : decode cX15_pushZ 17 = .ok (.imul, 1) := by decide +kernel
theorem dX15_pushZ_18 : decode cX15_pushZ 18 = .ok (.iload_n 2, 1) := by decide +kernel
theorem dX15_pushZ_19 : decode cX15_pushZ 19 = .ok (.iadd, 1) := by decide +kernel
theorem dX15_pushZ_20 : decode cX15_pushZ 20 = .ok (.aload_n 0, 1) := by decide +kernel
theorem dX15_pushZ_21 : decode cX15_pushZ 21 = .ok (.getfield 167, 3) := by decide +kernel
theorem dX15_pushZ_24 : decode cX15_pushZ 24 = .ok (.iload_n 2, 1) := by decide +kernel
theorem dX15_pushZ_25 : decode cX15_pushZ 25 = .ok (.iaload, 1) := by decide +kernel
theorem dX15_pushZ_26 : decode cX15_pushZ 26 = .ok (.iastore, 1) := by decide +kernel
theorem dX15_pushZ_27 : decode cX15_pushZ 27 = .ok (.iinc 2 1, 3) := by decide +kernel
theorem dX15_pushZ_30 : decode cX15_pushZ 30 = .ok (.goto (-28), 3) := by decide +kernel
theorem dX15_pushZ_33 : decode cX15_pushZ 33 = .ok (.aload_n 0, 1) := by decide +kernel
theorem dX15_pushZ_34 : decode cX15_pushZ 34 = .ok (.dup, 1) := by decide +kernel
theorem dX15_pushZ_35 : decode cX15_pushZ 35 = .ok (.getfield 649, 3) := by decide +kernel
theorem dX15_pushZ_38 : decode cX15_pushZ 38 = .ok (.iconst 1, 1) := by decide +kernel
theorem dX15_pushZ_39 : decode cX15_pushZ 39 = .ok (.iadd, 1) := by decide +kernel
theorem dX15_pushZ_40 : decode cX15_pushZ 40 = .ok (.putfield 649, 3) := by decide +kernel
theorem dX15_pushZ_43 : decode cX15_pushZ 43 = .ok (.return_, 1) := by decide +kernel
theorem dX15_named_0 : decode cX15_named 0 = .ok (.aload_n 0, 1) := by decide +kernel
theorem dX15_named_1 : decode cX15_named 1 = .ok (.aload_n 0, 1) := by decide +kernel
theorem dX15_named_2 : decode cX15_named 2 = .ok (.getfield 105, 3) := by decide +kernel
theorem dX15_named_5 : decode cX15_named 5 = .ok (.iload_n 1, 1) := by decide +kernel
theorem dX15_named_6 : decode cX15_named 6 = .ok (.iaload, 1) := by decide +kernel
theorem dX15_named_7 : decode cX15_named 7 = .ok (.invokevirtual 666, 3) := by decide +kernel
theorem dX15_named_10 : decode cX15_named 10 = .ok (.istore_n 2, 1) := by decide +kernel
theorem dX15_named_11 : decode cX15_named 11 = .ok (.iconst 0, 1) := by decide +kernel
theorem dX15_named_12 : decode cX15_named 12 = .ok (.istore_n 3, 1) := by decide +kernel
theorem dX15_named_13 : decode cX15_named 13 = .ok (.iload_n 3, 1) := by decide +kernel
theorem dX15_named_14 : decode cX15_named 14 = .ok (.iload_n 2, 1) := by decide +kernel
theorem dX15_named_15 : decode cX15_named 15 = .ok (.if_icmp .ge 146, 3) := by decide +kernel
theorem dX15_named_18 : decode cX15_named 18 = .ok (.aload_n 0, 1) := by decide +kernel
theorem dX15_named_19 : decode cX15_named 19 = .ok (.getfield 96, 3) := by decide +kernel
theorem dX15_named_22 : decode cX15_named 22 = .ok (.iload_n 1, 1) := by decide +kernel
theorem dX15_named_23 : decode cX15_named 23 = .ok (.iaload, 1) := by decide +kernel
theorem dX15_named_24 : decode cX15_named 24 = .ok (.istore 4, 2) := by decide +kernel
theorem dX15_named_26 : decode cX15_named 26 = .ok (.aload_n 0, 1) := by decide +kernel
theorem dX15_named_27 : decode cX15_named 27 = .ok (.getfield 167, 3) := by decide +kernel
theorem dX15_named_30 : decode cX15_named 30 = .ok (.iload_n 3, 1) := by decide +kernel
theorem dX15_named_31 : decode cX15_named 31 = .ok (.iload 4, 2) := by decide +kernel
theorem dX15_named_33 : decode cX15_named 33 = .ok (.iconst 1, 1) := by decide +kernel
theorem dX15_named_34 : decode cX15_named 34 = .ok (.if_icmp .ne 21, 3) := by decide +kernel
theorem dX15_named_37 : decode cX15_named 37 = .ok (.iconst 2, 1) := by decide +kernel
theorem dX15_named_38 : decode cX15_named 38 = .ok (.aload_n 0, 1) := by decide +kernel
theorem dX15_named_39 : decode cX15_named 39 = .ok (.getfield 142, 3) := by decide +kernel
theorem dX15_named_42 : decode cX15_named 42 = .ok (.aload_n 0, 1) := by decide +kernel
theorem dX15_named_43 : decode cX15_named 43 = .ok (.getfield 99, 3) := by decide +kernel
theorem dX15_named_46 : decode cX15_named 46 = .ok (.iload_n 1, 1) := by decide +kernel
theorem dX15_named_47 : decode cX15_named 47 = .ok (.iaload, 1) := by decide +kernel
theorem dX15_named_48 : decode cX15_named 48 = .ok (.iaload, 1) := by decide +kernel
theorem dX15_named_49 : decode cX15_named 49 = .ok (.iload_n 3, 1) := by decide +kernel
theorem dX15_named_50 : decode cX15_named 50 = .ok (.iadd, 1) := by decide +kernel
theorem dX15_named_51 : decode cX15_named 51 = .ok (.imul, 1) := by decide +kernel
theorem dX15_named_52 : decode cX15_named 52 = .ok (.goto 102, 3) := by decide +kernel
theorem dX15_named_55 : decode cX15_named 55 = .ok (.iload 4, 2) := by decide +kernel
theorem dX15_named_57 : decode cX15_named 57 = .ok (.iconst 2, 1) := by decide +kernel
theorem dX15_named_58 : decode cX15_named 58 = .ok (.if_icmp .ne 22, 3) := by decide +kernel
theorem dX15_named_61 : decode cX15_named 61 = .ok (.aload_n 0, 1) := by decide +kernel
theorem dX15_named_62 : decode cX15_named 62 = .ok (.getfield 188, 3) := by decide +kernel
theorem dX15_named_65 : decode cX15_named 65 = .ok (.bipush 32, 2) := by decide +kernel
theorem dX15_named_67 : decode cX15_named 67 = .ok (.aload_n 0, 1) := by decide +kernel
theorem dX15_named_68 : decode cX15_named 68 = .ok (.getfield 99, 3) := by decide +kernel
theorem dX15_named_71 : decode cX15_named 71 = .ok (.iload_n 1, 1) := by decide +kernel
theorem dX15_named_72 : decode cX15_named 72 = .ok (.iaload, 1) := by decide +kernel
theorem dX15_named_73 : decode cX15_named 73 = .ok (.imul, 1) := by decide +kernel
theorem dX15_named_74 : decode cX15_named 74 = .ok (.iload_n 3, 1) := by decide +kernel
theorem dX15_named_75 : decode cX15_named 75 = .ok (.iadd, 1) := by decide +kernel
theorem dX15_named_76 : decode cX15_named 76 = .ok (.iaload, 1) := by decide +kernel
theorem dX15_named_77 : decode cX15_named 77 = .ok (.goto 77, 3) := by decide +kernel
theorem dX15_named_80 : decode cX15_named 80 = .ok (.iload 4, 2) := by decide +kernel
theorem dX15_named_82 : decode cX15_named 82 = .ok (.iconst 3, 1) := by decide +kernel
theorem dX15_named_83 : decode cX15_named 83 = .ok (.if_icmp .ne 32, 3) := by decide +kernel
theorem dX15_named_86 : decode cX15_named 86 = .ok (.aload_n 0, 1) := by decide +kernel
theorem dX15_named_87 : decode cX15_named 87 = .ok (.getfield 216, 3) := by decide +kernel
theorem dX15_named_90 : decode cX15_named 90 = .ok (.aload_n 0, 1) := by decide +kernel
theorem dX15_named_91 : decode cX15_named 91 = .ok (.getfield 99, 3) := by decide +kernel
theorem dX15_named_94 : decode cX15_named 94 = .ok (.iload_n 1, 1) := by decide +kernel
theorem dX15_named_95 : decode cX15_named 95 = .ok (.iaload, 1) := by decide +kernel
theorem dX15_named_96 : decode cX15_named 96 = .ok (.laload, 1) := by decide +kernel
theorem dX15_named_97 : decode cX15_named 97 = .ok (.iload_n 3, 1) := by decide +kernel
theorem dX15_named_98 : decode cX15_named 98 = .ok (.lshr, 1) := by decide +kernel
theorem dX15_named_99 : decode cX15_named 99 = .ok (.lconst 1, 1) := by decide +kernel
theorem dX15_named_100 : decode cX15_named 100 = .ok (.land, 1) := by decide +kernel
theorem dX15_named_101 : decode cX15_named 101 = .ok (.lconst 1, 1) := by decide +kernel
theorem dX15_named_102 : decode cX15_named 102 = .ok (.lcmp, 1) := by decide +kernel
theorem dX15_named_103 : decode cX15_named 103 = .ok (.ifCond .ne 7, 3) := by decide +kernel
theorem dX15_named_106 : decode cX15_named 106 = .ok (.iconst (-1), 1) := by decide +kernel
theorem dX15_named_107 : decode cX15_named 107 = .ok (.goto 47, 3) := by decide +kernel
theorem dX15_named_110 : decode cX15_named 110 = .ok (.bipush (-2), 2) := by decide +kernel
theorem dX15_named_112 : decode cX15_named 112 = .ok (.goto 42, 3) := by decide +kernel
theorem dX15_named_115 : decode cX15_named 115 = .ok (.aload_n 0, 1) := by decide +kernel
theorem dX15_named_116 : decode cX15_named 116 = .ok (.getfield 158, 3) := by decide +kernel
theorem dX15_named_119 : decode cX15_named 119 = .ok (.bipush 32, 2) := by decide +kernel
theorem dX15_named_121 : decode cX15_named 121 = .ok (.aload_n 0, 1) := by decide +kernel
theorem dX15_named_122 : decode cX15_named 122 = .ok (.getfield 225, 3) := by decide +kernel
theorem dX15_named_125 : decode cX15_named 125 = .ok (.aload_n 0, 1) := by decide +kernel
theorem dX15_named_126 : decode cX15_named 126 = .ok (.getfield 681, 3) := by decide +kernel
theorem dX15_named_129 : decode cX15_named 129 = .ok (.ifCond .le 12, 3) := by decide +kernel
theorem dX15_named_132 : decode cX15_named 132 = .ok (.aload_n 0, 1) := by decide +kernel
theorem dX15_named_133 : decode cX15_named 133 = .ok (.getfield 681, 3) := by decide +kernel
theorem dX15_named_136 : decode cX15_named 136 = .ok (.iconst 1, 1) := by decide +kernel
theorem dX15_named_137 : decode cX15_named 137 = .ok (.isub, 1) := by decide +kernel
theorem dX15_named_138 : decode cX15_named 138 = .ok (.goto 4, 3) := by decide +kernel
theorem dX15_named_141 : decode cX15_named 141 = .ok (.iconst 0, 1) := by decide +kernel
theorem dX15_named_142 : decode cX15_named 142 = .ok (.iaload, 1) := by decide +kernel
theorem dX15_named_143 : decode cX15_named 143 = .ok (.aload_n 0, 1) := by decide +kernel
theorem dX15_named_144 : decode cX15_named 144 = .ok (.getfield 99, 3) := by decide +kernel
theorem dX15_named_147 : decode cX15_named 147 = .ok (.iload_n 1, 1) := by decide +kernel
theorem dX15_named_148 : decode cX15_named 148 = .ok (.iaload, 1) := by decide +kernel
theorem dX15_named_149 : decode cX15_named 149 = .ok (.iadd, 1) := by decide +kernel
theorem dX15_named_150 : decode cX15_named 150 = .ok (.imul, 1) := by decide +kernel
theorem dX15_named_151 : decode cX15_named 151 = .ok (.iload_n 3, 1) := by decide +kernel
theorem dX15_named_152 : decode cX15_named 152 = .ok (.iadd, 1) := by decide +kernel
theorem dX15_named_153 : decode cX15_named 153 = .ok (.iaload, 1) := by decide +kernel
theorem dX15_named_154 : decode cX15_named 154 = .ok (.iastore, 1) := by decide +kernel
theorem dX15_named_155 : decode cX15_named 155 = .ok (.iinc 3 1, 3) := by decide +kernel
theorem dX15_named_158 : decode cX15_named 158 = .ok (.goto (-145), 3) := by decide +kernel
theorem dX15_named_161 : decode cX15_named 161 = .ok (.aload_n 0, 1) := by decide +kernel
theorem dX15_named_162 : decode cX15_named 162 = .ok (.iload_n 2, 1) := by decide +kernel
theorem dX15_named_163 : decode cX15_named 163 = .ok (.invokevirtual 697, 3) := by decide +kernel
theorem dX15_named_166 : decode cX15_named 166 = .ok (.return_, 1) := by decide +kernel
theorem dX15_indexed_0 : decode cX15_indexed 0 = .ok (.aload_n 0, 1) := by decide +kernel
theorem dX15_indexed_1 : decode cX15_indexed 1 = .ok (.aload_n 0, 1) := by decide +kernel
theorem dX15_indexed_2 : decode cX15_indexed 2 = .ok (.getfield 105, 3) := by decide +kernel
theorem dX15_indexed_5 : decode cX15_indexed 5 = .ok (.iload_n 1, 1) := by decide +kernel
theorem dX15_indexed_6 : decode cX15_indexed 6 = .ok (.iaload, 1) := by decide +kernel
theorem dX15_indexed_7 : decode cX15_indexed 7 = .ok (.invokevirtual 666, 3) := by decide +kernel
theorem dX15_indexed_10 : decode cX15_indexed 10 = .ok (.istore_n 2, 1) := by decide +kernel
theorem dX15_indexed_11 : decode cX15_indexed 11 = .ok (.aload_n 0, 1) := by decide +kernel
theorem dX15_indexed_12 : decode cX15_indexed 12 = .ok (.getfield 111, 3) := by decide +kernel
theorem dX15_indexed_15 : decode cX15_indexed 15 = .ok (.iload_n 1, 1) := by decide +kernel
theorem dX15_indexed_16 : decode cX15_indexed 16 = .ok (.baload, 1) := by decide +kernel
theorem dX15_indexed_17 : decode cX15_indexed 17 = .ok (.ifCond .eq 86, 3) := by decide +kernel
theorem dX15_indexed_20 : decode cX15_indexed 20 = .ok (.aload_n 0, 1) := by decide +kernel
theorem dX15_indexed_21 : decode cX15_indexed 21 = .ok (.aload_n 0, 1) := by decide +kernel
theorem dX15_indexed_22 : decode cX15_indexed 22 = .ok (.getfield 649, 3) := by decide +kernel
theorem dX15_indexed_25 : decode cX15_indexed 25 = .ok (.iconst 1, 1) := by decide +kernel
theorem dX15_indexed_26 : decode cX15_indexed 26 = .ok (.isub, 1) := by decide +kernel
theorem dX15_indexed_27 : decode cX15_indexed 27 = .ok (.invokevirtual 712, 3) := by decide +kernel
theorem dX15_indexed_30 : decode cX15_indexed 30 = .ok (.lstore_n 3, 1) := by decide +kernel
theorem dX15_indexed_31 : decode cX15_indexed 31 = .ok (.lload_n 3, 1) := by decide +kernel
theorem dX15_indexed_32 : decode cX15_indexed 32 = .ok (.aload_n 0, 1) := by decide +kernel
theorem dX15_indexed_33 : decode cX15_indexed 33 = .ok (.getfield 102, 3) := by decide +kernel
theorem dX15_indexed_36 : decode cX15_indexed 36 = .ok (.iload_n 1, 1) := by decide +kernel
theorem dX15_indexed_37 : decode cX15_indexed 37 = .ok (.iaload, 1) := by decide +kernel
theorem dX15_indexed_38 : decode cX15_indexed 38 = .ok (.i2l, 1) := by decide +kernel
theorem dX15_indexed_39 : decode cX15_indexed 39 = .ok (.lcmp, 1) := by decide +kernel
theorem dX15_indexed_40 : decode cX15_indexed 40 = .ok (.ifCond .lt 16, 3) := by decide +kernel
theorem dX15_indexed_43 : decode cX15_indexed 43 = .ok (.aload_n 0, 1) := by decide +kernel
theorem dX15_indexed_44 : decode cX15_indexed 44 = .ok (.bipush 7, 2) := by decide +kernel
theorem dX15_indexed_46 : decode cX15_indexed 46 = .ok (.aload_n 0, 1) := by decide +kernel
theorem dX15_indexed_47 : decode cX15_indexed 47 = .ok (.getfield 108, 3) := by decide +kernel
theorem dX15_indexed_50 : decode cX15_indexed 50 = .ok (.iload_n 1, 1) := by decide +kernel
theorem dX15_indexed_51 : decode cX15_indexed 51 = .ok (.iaload, 1) := by decide +kernel
theorem dX15_indexed_52 : decode cX15_indexed 52 = .ok (.invokevirtual 390, 3) := by decide +kernel
theorem dX15_indexed_55 : decode cX15_indexed 55 = .ok (.return_, 1) := by decide +kernel
theorem dX15_indexed_56 : decode cX15_indexed 56 = .ok (.aload_n 0, 1) := by decide +kernel
theorem dX15_indexed_57 : decode cX15_indexed 57 = .ok (.dup, 1) := by decide +kernel
theorem dX15_indexed_58 : decode cX15_indexed 58 = .ok (.getfield 649, 3) := by decide +kernel
theorem dX15_indexed_61 : decode cX15_indexed 61 = .ok (.iconst 1, 1) := by decide +kernel
theorem dX15_indexed_62 : decode cX15_indexed 62 = .ok (.isub, 1) := by decide +kernel
theorem dX15_indexed_63 : decode cX15_indexed 63 = .ok (.putfield 649, 3) := by decide +kernel
theorem dX15_indexed_66 : decode cX15_indexed 66 = .ok (.iconst 0, 1) := by decide +kernel
theorem dX15_indexed_67 : decode cX15_indexed 67 = .ok (.istore 5, 2) := by decide +kernel
theorem dX15_indexed_69 : decode cX15_indexed 69 = .ok (.iload 5, 2) := by decide +kernel
theorem dX15_indexed_71 : decode cX15_indexed 71 = .ok (.iload_n 2, 1) := by decide +kernel
theorem dX15_indexed_72 : decode cX15_indexed 72 = .ok (.if_icmp .ge 25, 3) := by decide +kernel
theorem dX15_indexed_75 : decode cX15_indexed 75 = .ok (.aload_n 0, 1) := by decide +kernel
theorem dX15_indexed_76 : decode cX15_indexed 76 = .ok (.getfield 167, 3) := by decide +kernel
theorem dX15_indexed_79 : decode cX15_indexed 79 = .ok (.iload 5, 2) := by decide +kernel
theorem dX15_indexed_81 : decode cX15_indexed 81 = .ok (.aload_n 0, 1) := by decide +kernel
theorem dX15_indexed_82 : decode cX15_indexed 82 = .ok (.iload_n 1, 1) := by decide +kernel
theorem dX15_indexed_83 : decode cX15_indexed 83 = .ok (.lload_n 3, 1) := by decide +kernel
theorem dX15_indexed_84 : decode cX15_indexed 84 = .ok (.l2i, 1) := by decide +kernel
theorem dX15_indexed_85 : decode cX15_indexed 85 = .ok (.iload 5, 2) := by decide +kernel
theorem dX15_indexed_87 : decode cX15_indexed 87 = .ok (.invokevirtual 728, 3) := by decide +kernel
theorem dX15_indexed_90 : decode cX15_indexed 90 = .ok (.iastore, 1) := by decide +kernel
theorem dX15_indexed_91 : decode cX15_indexed 91 = .ok (.iinc 5 1, 3) := by decide +kernel
theorem dX15_indexed_94 : decode cX15_indexed 94 = .ok (.goto (-25), 3) := by decide +kernel
theorem dX15_indexed_97 : decode cX15_indexed 97 = .ok (.aload_n 0, 1) := by decide +kernel
theorem dX15_indexed_98 : decode cX15_indexed 98 = .ok (.iload_n 2, 1) := by decide +kernel
theorem dX15_indexed_99 : decode cX15_indexed 99 = .ok (.invokevirtual 697, 3) := by decide +kernel
theorem dX15_indexed_102 : decode cX15_indexed 102 = .ok (.return_, 1) := by decide +kernel
theorem dX15_indexed_103 : decode cX15_indexed 103 = .ok (.aload_n 0, 1) := by decide +kernel
theorem dX15_indexed_104 : decode cX15_indexed 104 = .ok (.aload_n 0, 1) := by decide +kernel
theorem dX15_indexed_105 : decode cX15_indexed 105 = .ok (.getfield 303, 3) := by decide +kernel
theorem dX15_indexed_108 : decode cX15_indexed 108 = .ok (.invokevirtual 709, 3) := by decide +kernel
theorem dX15_indexed_111 : decode cX15_indexed 111 = .ok (.iconst 0, 1) := by decide +kernel
theorem dX15_indexed_112 : decode cX15_indexed 112 = .ok (.istore_n 3, 1) := by decide +kernel
theorem dX15_indexed_113 : decode cX15_indexed 113 = .ok (.iload_n 3, 1) := by decide +kernel
theorem dX15_indexed_114 : decode cX15_indexed 114 = .ok (.aload_n 0, 1) := by decide +kernel
theorem dX15_indexed_115 : decode cX15_indexed 115 = .ok (.getfield 303, 3) := by decide +kernel
theorem dX15_indexed_118 : decode cX15_indexed 118 = .ok (.if_icmp .ge 21, 3) := by decide +kernel
theorem dX15_indexed_121 : decode cX15_indexed 121 = .ok (.aload_n 0, 1) := by decide +kernel
theorem dX15_indexed_122 : decode cX15_indexed 122 = .ok (.getfield 231, 3) := by decide +kernel
theorem dX15_indexed_125 : decode cX15_indexed 125 = .ok (.iload_n 3, 1) := by decide +kernel
theorem dX15_indexed_126 : decode cX15_indexed 126 = .ok (.aload_n 0, 1) := by decide +kernel
theorem dX15_indexed_127 : decode cX15_indexed 127 = .ok (.getfield 161, 3) := by decide +kernel
theorem dX15_indexed_130 : decode cX15_indexed 130 = .ok (.iload_n 3, 1) := by decide +kernel
theorem dX15_indexed_131 : decode cX15_indexed 131 = .ok (.iaload, 1) := by decide +kernel
theorem dX15_indexed_132 : decode cX15_indexed 132 = .ok (.iastore, 1) := by decide +kernel
theorem dX15_indexed_133 : decode cX15_indexed 133 = .ok (.iinc 3 1, 3) := by decide +kernel
theorem dX15_indexed_136 : decode cX15_indexed 136 = .ok (.goto (-23), 3) := by decide +kernel
theorem dX15_indexed_139 : decode cX15_indexed 139 = .ok (.iconst 0, 1) := by decide +kernel
theorem dX15_indexed_140 : decode cX15_indexed 140 = .ok (.istore_n 3, 1) := by decide +kernel
theorem dX15_indexed_141 : decode cX15_indexed 141 = .ok (.iload_n 3, 1) := by decide +kernel
theorem dX15_indexed_142 : decode cX15_indexed 142 = .ok (.iload_n 2, 1) := by decide +kernel
theorem dX15_indexed_143 : decode cX15_indexed 143 = .ok (.if_icmp .ge 17, 3) := by decide +kernel
theorem dX15_indexed_146 : decode cX15_indexed 146 = .ok (.aload_n 0, 1) := by decide +kernel
theorem dX15_indexed_147 : decode cX15_indexed 147 = .ok (.getfield 167, 3) := by decide +kernel
theorem dX15_indexed_150 : decode cX15_indexed 150 = .ok (.iload_n 3, 1) := by decide +kernel
theorem dX15_indexed_151 : decode cX15_indexed 151 = .ok (.bipush (-2), 2) := by decide +kernel
theorem dX15_indexed_153 : decode cX15_indexed 153 = .ok (.iastore, 1) := by decide +kernel
theorem dX15_indexed_154 : decode cX15_indexed 154 = .ok (.iinc 3 1, 3) := by decide +kernel
theorem dX15_indexed_157 : decode cX15_indexed 157 = .ok (.goto (-16), 3) := by decide +kernel
theorem dX15_indexed_160 : decode cX15_indexed 160 = .ok (.iconst 0, 1) := by decide +kernel
theorem dX15_indexed_161 : decode cX15_indexed 161 = .ok (.istore_n 3, 1) := by decide +kernel
theorem dX15_indexed_162 : decode cX15_indexed 162 = .ok (.iload_n 3, 1) := by decide +kernel
theorem dX15_indexed_163 : decode cX15_indexed 163 = .ok (.aload_n 0, 1) := by decide +kernel
theorem dX15_indexed_164 : decode cX15_indexed 164 = .ok (.getfield 102, 3) := by decide +kernel
theorem dX15_indexed_167 : decode cX15_indexed 167 = .ok (.iload_n 1, 1) := by decide +kernel
theorem dX15_indexed_168 : decode cX15_indexed 168 = .ok (.iaload, 1) := by decide +kernel
theorem dX15_indexed_169 : decode cX15_indexed 169 = .ok (.if_icmp .ge 63, 3) := by decide +kernel
theorem dX15_indexed_172 : decode cX15_indexed 172 = .ok (.aload_n 0, 1) := by decide +kernel
theorem dX15_indexed_173 : decode cX15_indexed 173 = .ok (.iload_n 3, 1) := by decide +kernel
theorem dX15_indexed_174 : decode cX15_indexed 174 = .ok (.invokevirtual 731, 3) := by decide +kernel
theorem dX15_indexed_177 : decode cX15_indexed 177 = .ok (.istore 4, 2) := by decide +kernel
theorem dX15_indexed_179 : decode cX15_indexed 179 = .ok (.iconst 0, 1) := by decide +kernel
theorem dX15_indexed_180 : decode cX15_indexed 180 = .ok (.istore 5, 2) := by decide +kernel
theorem dX15_indexed_182 : decode cX15_indexed 182 = .ok (.iload 5, 2) := by decide +kernel
theorem dX15_indexed_184 : decode cX15_indexed 184 = .ok (.iload_n 2, 1) := by decide +kernel
theorem dX15_indexed_185 : decode cX15_indexed 185 = .ok (.if_icmp .ge 41, 3) := by decide +kernel
theorem dX15_indexed_188 : decode cX15_indexed 188 = .ok (.aload_n 0, 1) := by decide +kernel
theorem dX15_indexed_189 : decode cX15_indexed 189 = .ok (.getfield 167, 3) := by decide +kernel
theorem dX15_indexed_192 : decode cX15_indexed 192 = .ok (.iload 5, 2) := by decide +kernel
theorem dX15_indexed_194 : decode cX15_indexed 194 = .ok (.aload_n 0, 1) := by decide +kernel
theorem dX15_indexed_195 : decode cX15_indexed 195 = .ok (.aload_n 0, 1) := by decide +kernel
theorem dX15_indexed_196 : decode cX15_indexed 196 = .ok (.getfield 167, 3) := by decide +kernel
theorem dX15_indexed_199 : decode cX15_indexed 199 = .ok (.iload 5, 2) := by decide +kernel
theorem dX15_indexed_201 : decode cX15_indexed 201 = .ok (.iaload, 1) := by decide +kernel
theorem dX15_indexed_202 : decode cX15_indexed 202 = .ok (.aload_n 0, 1) := by decide +kernel
theorem dX15_indexed_203 : decode cX15_indexed 203 = .ok (.iload 4, 2) := by decide +kernel
theorem dX15_indexed_205 : decode cX15_indexed 205 = .ok (.aload_n 0, 1) := by decide +kernel
theorem dX15_indexed_206 : decode cX15_indexed 206 = .ok (.iload_n 1, 1) := by decide +kernel
theorem dX15_indexed_207 : decode cX15_indexed 207 = .ok (.iload_n 3, 1) := by decide +kernel
theorem dX15_indexed_208 : decode cX15_indexed 208 = .ok (.iload 5, 2) := by decide +kernel
theorem dX15_indexed_210 : decode cX15_indexed 210 = .ok (.invokevirtual 728, 3) := by decide +kernel
theorem dX15_indexed_213 : decode cX15_indexed 213 = .ok (.invokevirtual 646, 3) := by decide +kernel
theorem dX15_indexed_216 : decode cX15_indexed 216 = .ok (.invokevirtual 642, 3) := by decide +kernel
theorem dX15_indexed_219 : decode cX15_indexed 219 = .ok (.iastore, 1) := by decide +kernel
theorem dX15_indexed_220 : decode cX15_indexed 220 = .ok (.iinc 5 1, 3) := by decide +kernel
theorem dX15_indexed_223 : decode cX15_indexed 223 = .ok (.goto (-41), 3) := by decide +kernel
theorem dX15_indexed_226 : decode cX15_indexed 226 = .ok (.iinc 3 1, 3) := by decide +kernel
theorem dX15_indexed_229 : decode cX15_indexed 229 = .ok (.goto (-67), 3) := by decide +kernel
theorem dX15_indexed_232 : decode cX15_indexed 232 = .ok (.aload_n 0, 1) := by decide +kernel
theorem dX15_indexed_233 : decode cX15_indexed 233 = .ok (.iload_n 2, 1) := by decide +kernel
theorem dX15_indexed_234 : decode cX15_indexed 234 = .ok (.invokevirtual 697, 3) := by decide +kernel
theorem dX15_indexed_237 : decode cX15_indexed 237 = .ok (.return_, 1) := by decide +kernel
theorem dX15_worthOf_0 : decode cX15_worthOf 0 = .ok (.lconst 0, 1) := by decide +kernel
theorem dX15_worthOf_1 : decode cX15_worthOf 1 = .ok (.lstore_n 2, 1) := by decide +kernel
theorem dX15_worthOf_2 : decode cX15_worthOf 2 = .ok (.iconst 0, 1) := by decide +kernel
theorem dX15_worthOf_3 : decode cX15_worthOf 3 = .ok (.istore 4, 2) := by decide +kernel
theorem dX15_worthOf_5 : decode cX15_worthOf 5 = .ok (.iload 4, 2) := by decide +kernel
theorem dX15_worthOf_7 : decode cX15_worthOf 7 = .ok (.aload_n 0, 1) := by decide +kernel
theorem dX15_worthOf_8 : decode cX15_worthOf 8 = .ok (.getfield 303, 3) := by decide +kernel
theorem dX15_worthOf_11 : decode cX15_worthOf 11 = .ok (.if_icmp .ge 36, 3) := by decide +kernel
theorem dX15_worthOf_14 : decode cX15_worthOf 14 = .ok (.lload_n 2, 1) := by decide +kernel
theorem dX15_worthOf_15 : decode cX15_worthOf 15 = .ok (.aload_n 0, 1) := by decide +kernel
theorem dX15_worthOf_16 : decode cX15_worthOf 16 = .ok (.getfield 158, 3) := by decide +kernel
theorem dX15_worthOf_19 : decode cX15_worthOf 19 = .ok (.bipush 32, 2) := by decide +kernel
theorem dX15_worthOf_21 : decode cX15_worthOf 21 = .ok (.iload_n 1, 1) := by decide +kernel
theorem dX15_worthOf_22 : decode cX15_worthOf 22 = .ok (.imul, 1) := by decide +kernel
theorem dX15_worthOf_23 : decode cX15_worthOf 23 = .ok (.iload 4, 2) := by decide +kernel
theorem dX15_worthOf_25 : decode cX15_worthOf 25 = .ok (.iadd, 1) := by decide +kernel
theorem dX15_worthOf_26 : decode cX15_worthOf 26 = .ok (.iaload, 1) := by decide +kernel
theorem dX15_worthOf_27 : decode cX15_worthOf 27 = .ok (.iconst (-1), 1) := by decide +kernel
theorem dX15_worthOf_28 : decode cX15_worthOf 28 = .ok (.if_icmp .ne 10, 3) := by decide +kernel
theorem dX15_worthOf_31 : decode cX15_worthOf 31 = .ok (.lconst 1, 1) := by decide +kernel
theorem dX15_worthOf_32 : decode cX15_worthOf 32 = .ok (.iload 4, 2) := by decide +kernel
theorem dX15_worthOf_34 : decode cX15_worthOf 34 = .ok (.lshl, 1) := by decide +kernel
theorem dX15_worthOf_35 : decode cX15_worthOf 35 = .ok (.goto 4, 3) := by decide +kernel
theorem dX15_worthOf_38 : decode cX15_worthOf 38 = .ok (.lconst 0, 1) := by decide +kernel
theorem dX15_worthOf_39 : decode cX15_worthOf 39 = .ok (.ladd, 1) := by decide +kernel
theorem dX15_worthOf_40 : decode cX15_worthOf 40 = .ok (.lstore_n 2, 1) := by decide +kernel
theorem dX15_worthOf_41 : decode cX15_worthOf 41 = .ok (.iinc 4 1, 3) := by decide +kernel
theorem dX15_worthOf_44 : decode cX15_worthOf 44 = .ok (.goto (-39), 3) := by decide +kernel
theorem dX15_worthOf_47 : decode cX15_worthOf 47 = .ok (.lload_n 2, 1) := by decide +kernel
theorem dX15_worthOf_48 : decode cX15_worthOf 48 = .ok (.lreturn, 1) := by decide +kernel
theorem dX15_elementBit_0 : decode cX15_elementBit 0 = .ok (.aload_n 0, 1) := by decide +kernel
theorem dX15_elementBit_1 : decode cX15_elementBit 1 = .ok (.getfield 96, 3) := by decide +kernel
theorem dX15_elementBit_4 : decode cX15_elementBit 4 = .ok (.iload_n 1, 1) := by decide +kernel
theorem dX15_elementBit_5 : decode cX15_elementBit 5 = .ok (.iaload, 1) := by decide +kernel
theorem dX15_elementBit_6 : decode cX15_elementBit 6 = .ok (.iconst 1, 1) := by decide +kernel
theorem dX15_elementBit_7 : decode cX15_elementBit 7 = .ok (.if_icmp .ne 23, 3) := by decide +kernel
theorem dX15_elementBit_10 : decode cX15_elementBit 10 = .ok (.iconst 2, 1) := by decide +kernel
theorem dX15_elementBit_11 : decode cX15_elementBit 11 = .ok (.aload_n 0, 1) := by decide +kernel
theorem dX15_elementBit_12 : decode cX15_elementBit 12 = .ok (.getfield 142, 3) := by decide +kernel
theorem dX15_elementBit_15 : decode cX15_elementBit 15 = .ok (.aload_n 0, 1) := by decide +kernel
theorem dX15_elementBit_16 : decode cX15_elementBit 16 = .ok (.getfield 99, 3) := by decide +kernel
theorem dX15_elementBit_19 : decode cX15_elementBit 19 = .ok (.iload_n 1, 1) := by decide +kernel
theorem dX15_elementBit_20 : decode cX15_elementBit 20 = .ok (.iaload, 1) := by decide +kernel
theorem dX15_elementBit_21 : decode cX15_elementBit 21 = .ok (.iload_n 2, 1) := by decide +kernel
theorem dX15_elementBit_22 : decode cX15_elementBit 22 = .ok (.iadd, 1) := by decide +kernel
theorem dX15_elementBit_23 : decode cX15_elementBit 23 = .ok (.iaload, 1) := by decide +kernel
theorem dX15_elementBit_24 : decode cX15_elementBit 24 = .ok (.iload_n 3, 1) := by decide +kernel
theorem dX15_elementBit_25 : decode cX15_elementBit 25 = .ok (.iadd, 1) := by decide +kernel
theorem dX15_elementBit_26 : decode cX15_elementBit 26 = .ok (.imul, 1) := by decide +kernel
theorem dX15_elementBit_27 : decode cX15_elementBit 27 = .ok (.goto 21, 3) := by decide +kernel
theorem dX15_elementBit_30 : decode cX15_elementBit 30 = .ok (.aload_n 0, 1) := by decide +kernel
theorem dX15_elementBit_31 : decode cX15_elementBit 31 = .ok (.getfield 188, 3) := by decide +kernel
theorem dX15_elementBit_34 : decode cX15_elementBit 34 = .ok (.bipush 32, 2) := by decide +kernel
theorem dX15_elementBit_36 : decode cX15_elementBit 36 = .ok (.aload_n 0, 1) := by decide +kernel
theorem dX15_elementBit_37 : decode cX15_elementBit 37 = .ok (.getfield 99, 3) := by decide +kernel
theorem dX15_elementBit_40 : decode cX15_elementBit 40 = .ok (.iload_n 1, 1) := by decide +kernel
theorem dX15_elementBit_41 : decode cX15_elementBit 41 = .ok (.iaload, 1) := by decide +kernel
theorem dX15_elementBit_42 : decode cX15_elementBit 42 = .ok (.iload_n 2, 1) := by decide +kernel
theorem dX15_elementBit_43 : decode cX15_elementBit 43 = .ok (.iadd, 1) := by decide +kernel
theorem dX15_elementBit_44 : decode cX15_elementBit 44 = .ok (.imul, 1) := by decide +kernel
theorem dX15_elementBit_45 : decode cX15_elementBit 45 = .ok (.iload_n 3, 1) := by decide +kernel
theorem dX15_elementBit_46 : decode cX15_elementBit 46 = .ok (.iadd, 1) := by decide +kernel
theorem dX15_elementBit_47 : decode cX15_elementBit 47 = .ok (.iaload, 1) := by decide +kernel
theorem dX15_elementBit_48 : decode cX15_elementBit 48 = .ok (.ireturn, 1) := by decide +kernel
theorem dX15_popX_0 : decode cX15_popX 0 = .ok (.aload_n 0, 1) := by decide +kernel
theorem dX15_popX_1 : decode cX15_popX 1 = .ok (.dup, 1) := by decide +kernel
theorem dX15_popX_2 : decode cX15_popX 2 = .ok (.getfield 649, 3) := by decide +kernel
theorem dX15_popX_5 : decode cX15_popX 5 = .ok (.iconst 1, 1) := by decide +kernel
theorem dX15_popX_6 : decode cX15_popX 6 = .ok (.isub, 1) := by decide +kernel
theorem dX15_popX_7 : decode cX15_popX 7 = .ok (.putfield 649, 3) := by decide +kernel
theorem dX15_popX_10 : decode cX15_popX 10 = .ok (.iconst 0, 1) := by decide +kernel
theorem dX15_popX_11 : decode cX15_popX 11 = .ok (.istore_n 2, 1) := by decide +kernel
theorem dX15_popX_12 : decode cX15_popX 12 = .ok (.iload_n 2, 1) := by decide +kernel
theorem dX15_popX_13 : decode cX15_popX 13 = .ok (.iload_n 1, 1) := by decide +kernel
theorem dX15_popX_14 : decode cX15_popX 14 = .ok (.if_icmp .ge 29, 3) := by decide +kernel
theorem dX15_popX_17 : decode cX15_popX 17 = .ok (.aload_n 0, 1) := by decide +kernel
theorem dX15_popX_18 : decode cX15_popX 18 = .ok (.getfield 161, 3) := by decide +kernel
theorem dX15_popX_21 : decode cX15_popX 21 = .ok (.iload_n 2, 1) := by decide +kernel
theorem dX15_popX_22 : decode cX15_popX 22 = .ok (.aload_n 0, 1) := by decide +kernel
theorem dX15_popX_23 : decode cX15_popX 23 = .ok (.getfield 158, 3) := by decide +kernel
theorem dX15_popX_26 : decode cX15_popX 26 = .ok (.bipush 32, 2) := by decide +kernel
theorem dX15_popX_28 : decode cX15_popX 28 = .ok (.aload_n 0, 1) := by decide +kernel
theorem dX15_popX_29 : decode cX15_popX 29 = .ok (.getfield 649, 3) := by decide +kernel
theorem dX15_popX_32 : decode cX15_popX 32 = .ok (.imul, 1) := by decide +kernel
theorem dX15_popX_33 : decode cX15_popX 33 = .ok (.iload_n 2, 1) := by decide +kernel
theorem dX15_popX_34 : decode cX15_popX 34 = .ok (.iadd, 1) := by decide +kernel
theorem dX15_popX_35 : decode cX15_popX 35 = .ok (.iaload, 1) := by decide +kernel
theorem dX15_popX_36 : decode cX15_popX 36 = .ok (.iastore, 1) := by decide +kernel
theorem dX15_popX_37 : decode cX15_popX 37 = .ok (.iinc 2 1, 3) := by decide +kernel
theorem dX15_popX_40 : decode cX15_popX 40 = .ok (.goto (-28), 3) := by decide +kernel
theorem dX15_popX_43 : decode cX15_popX 43 = .ok (.return_, 1) := by decide +kernel
theorem dX15_isIndex_0 : decode cX15_isIndex 0 = .ok (.aload_n 0, 1) := by decide +kernel
theorem dX15_isIndex_1 : decode cX15_isIndex 1 = .ok (.getfield 303, 3) := by decide +kernel
theorem dX15_isIndex_4 : decode cX15_isIndex 4 = .ok (.bipush 31, 2) := by decide +kernel
theorem dX15_isIndex_6 : decode cX15_isIndex 6 = .ok (.if_icmp .ge 16, 3) := by decide +kernel
theorem dX15_isIndex_9 : decode cX15_isIndex 9 = .ok (.iload_n 1, 1) := by decide +kernel
theorem dX15_isIndex_10 : decode cX15_isIndex 10 = .ok (.iconst 1, 1) := by decide +kernel
theorem dX15_isIndex_11 : decode cX15_isIndex 11 = .ok (.aload_n 0, 1) := by decide +kernel
theorem dX15_isIndex_12 : decode cX15_isIndex 12 = .ok (.getfield 303, 3) := by decide +kernel
theorem dX15_isIndex_15 : decode cX15_isIndex 15 = .ok (.ishl, 1) := by decide +kernel
theorem dX15_isIndex_16 : decode cX15_isIndex 16 = .ok (.if_icmp .lt 6, 3) := by decide +kernel
theorem dX15_isIndex_19 : decode cX15_isIndex 19 = .ok (.bipush (-2), 2) := by decide +kernel
theorem dX15_isIndex_21 : decode cX15_isIndex 21 = .ok (.ireturn, 1) := by decide +kernel
theorem dX15_isIndex_22 : decode cX15_isIndex 22 = .ok (.iconst 0, 1) := by decide +kernel
theorem dX15_isIndex_23 : decode cX15_isIndex 23 = .ok (.istore_n 2, 1) := by decide +kernel
theorem dX15_isIndex_24 : decode cX15_isIndex 24 = .ok (.iload_n 2, 1) := by decide +kernel
theorem dX15_isIndex_25 : decode cX15_isIndex 25 = .ok (.aload_n 0, 1) := by decide +kernel
theorem dX15_isIndex_26 : decode cX15_isIndex 26 = .ok (.getfield 303, 3) := by decide +kernel
theorem dX15_isIndex_29 : decode cX15_isIndex 29 = .ok (.if_icmp .ge 52, 3) := by decide +kernel
theorem dX15_isIndex_32 : decode cX15_isIndex 32 = .ok (.aload_n 0, 1) := by decide +kernel
theorem dX15_isIndex_33 : decode cX15_isIndex 33 = .ok (.getfield 161, 3) := by decide +kernel
theorem dX15_isIndex_36 : decode cX15_isIndex 36 = .ok (.iload_n 2, 1) := by decide +kernel
theorem dX15_isIndex_37 : decode cX15_isIndex 37 = .ok (.aload_n 0, 1) := by decide +kernel
theorem dX15_isIndex_38 : decode cX15_isIndex 38 = .ok (.getfield 231, 3) := by decide +kernel
theorem dX15_isIndex_41 : decode cX15_isIndex 41 = .ok (.iload_n 2, 1) := by decide +kernel
theorem dX15_isIndex_42 : decode cX15_isIndex 42 = .ok (.iaload, 1) := by decide +kernel
theorem dX15_isIndex_43 : decode cX15_isIndex 43 = .ok (.iastore, 1) := by decide +kernel
theorem dX15_isIndex_44 : decode cX15_isIndex 44 = .ok (.aload_n 0, 1) := by decide +kernel
theorem dX15_isIndex_45 : decode cX15_isIndex 45 = .ok (.getfield 164, 3) := by decide +kernel
theorem dX15_isIndex_48 : decode cX15_isIndex 48 = .ok (.iload_n 2, 1) := by decide +kernel
theorem dX15_isIndex_49 : decode cX15_isIndex 49 = .ok (.iload_n 2, 1) := by decide +kernel
theorem dX15_isIndex_50 : decode cX15_isIndex 50 = .ok (.bipush 31, 2) := by decide +kernel
theorem dX15_isIndex_52 : decode cX15_isIndex 52 = .ok (.if_icmp .ge 11, 3) := by decide +kernel
theorem dX15_isIndex_55 : decode cX15_isIndex 55 = .ok (.iload_n 1, 1) := by decide +kernel
theorem dX15_isIndex_56 : decode cX15_isIndex 56 = .ok (.iload_n 2, 1) := by decide +kernel
theorem dX15_isIndex_57 : decode cX15_isIndex 57 = .ok (.ishr, 1) := by decide +kernel
theorem dX15_isIndex_58 : decode cX15_isIndex 58 = .ok (.iconst 1, 1) := by decide +kernel
theorem dX15_isIndex_59 : decode cX15_isIndex 59 = .ok (.iand, 1) := by decide +kernel
theorem dX15_isIndex_60 : decode cX15_isIndex 60 = .ok (.goto 4, 3) := by decide +kernel
theorem dX15_isIndex_63 : decode cX15_isIndex 63 = .ok (.iconst 0, 1) := by decide +kernel
theorem dX15_isIndex_64 : decode cX15_isIndex 64 = .ok (.iconst 1, 1) := by decide +kernel
theorem dX15_isIndex_65 : decode cX15_isIndex 65 = .ok (.if_icmp .ne 7, 3) := by decide +kernel
theorem dX15_isIndex_68 : decode cX15_isIndex 68 = .ok (.iconst (-1), 1) := by decide +kernel
theorem dX15_isIndex_69 : decode cX15_isIndex 69 = .ok (.goto 5, 3) := by decide +kernel
theorem dX15_isIndex_72 : decode cX15_isIndex 72 = .ok (.bipush (-2), 2) := by decide +kernel
theorem dX15_isIndex_74 : decode cX15_isIndex 74 = .ok (.iastore, 1) := by decide +kernel
theorem dX15_isIndex_75 : decode cX15_isIndex 75 = .ok (.iinc 2 1, 3) := by decide +kernel
theorem dX15_isIndex_78 : decode cX15_isIndex 78 = .ok (.goto (-54), 3) := by decide +kernel
theorem dX15_isIndex_81 : decode cX15_isIndex 81 = .ok (.aload_n 0, 1) := by decide +kernel
theorem dX15_isIndex_82 : decode cX15_isIndex 82 = .ok (.aload_n 0, 1) := by decide +kernel
theorem dX15_isIndex_83 : decode cX15_isIndex 83 = .ok (.getfield 303, 3) := by decide +kernel
theorem dX15_isIndex_86 : decode cX15_isIndex 86 = .ok (.invokevirtual 725, 3) := by decide +kernel
theorem dX15_isIndex_89 : decode cX15_isIndex 89 = .ok (.ireturn, 1) := by decide +kernel
theorem dX15_equal_0 : decode cX15_equal 0 = .ok (.iconst 0, 1) := by decide +kernel
theorem dX15_equal_1 : decode cX15_equal 1 = .ok (.istore_n 2, 1) := by decide +kernel
theorem dX15_equal_2 : decode cX15_equal 2 = .ok (.iload_n 2, 1) := by decide +kernel
theorem dX15_equal_3 : decode cX15_equal 3 = .ok (.iload_n 1, 1) := by decide +kernel
theorem dX15_equal_4 : decode cX15_equal 4 = .ok (.if_icmp .ge 33, 3) := by decide +kernel
theorem dX15_equal_7 : decode cX15_equal 7 = .ok (.aload_n 0, 1) := by decide +kernel
theorem dX15_equal_8 : decode cX15_equal 8 = .ok (.getfield 170, 3) := by decide +kernel
theorem dX15_equal_11 : decode cX15_equal 11 = .ok (.iload_n 2, 1) := by decide +kernel
theorem dX15_equal_12 : decode cX15_equal 12 = .ok (.aload_n 0, 1) := by decide +kernel
theorem dX15_equal_13 : decode cX15_equal 13 = .ok (.aload_n 0, 1) := by decide +kernel
theorem dX15_equal_14 : decode cX15_equal 14 = .ok (.getfield 161, 3) := by decide +kernel
theorem dX15_equal_17 : decode cX15_equal 17 = .ok (.iload_n 2, 1) := by decide +kernel
theorem dX15_equal_18 : decode cX15_equal 18 = .ok (.iaload, 1) := by decide +kernel
theorem dX15_equal_19 : decode cX15_equal 19 = .ok (.aload_n 0, 1) := by decide +kernel
theorem dX15_equal_20 : decode cX15_equal 20 = .ok (.getfield 164, 3) := by decide +kernel
theorem dX15_equal_23 : decode cX15_equal 23 = .ok (.iload_n 2, 1) := by decide +kernel
theorem dX15_equal_24 : decode cX15_equal 24 = .ok (.iaload, 1) := by decide +kernel
theorem dX15_equal_25 : decode cX15_equal 25 = .ok (.invokevirtual 642, 3) := by decide +kernel
theorem dX15_equal_28 : decode cX15_equal 28 = .ok (.iconst 1, 1) := by decide +kernel
theorem dX15_equal_29 : decode cX15_equal 29 = .ok (.ixor, 1) := by decide +kernel
theorem dX15_equal_30 : decode cX15_equal 30 = .ok (.iastore, 1) := by decide +kernel
theorem dX15_equal_31 : decode cX15_equal 31 = .ok (.iinc 2 1, 3) := by decide +kernel
theorem dX15_equal_34 : decode cX15_equal 34 = .ok (.goto (-32), 3) := by decide +kernel
theorem dX15_equal_37 : decode cX15_equal 37 = .ok (.iload_n 1, 1) := by decide +kernel
theorem dX15_equal_38 : decode cX15_equal 38 = .ok (.istore_n 2, 1) := by decide +kernel
theorem dX15_equal_39 : decode cX15_equal 39 = .ok (.iload_n 2, 1) := by decide +kernel
theorem dX15_equal_40 : decode cX15_equal 40 = .ok (.iconst 1, 1) := by decide +kernel
theorem dX15_equal_41 : decode cX15_equal 41 = .ok (.if_icmp .le 72, 3) := by decide +kernel
theorem dX15_equal_44 : decode cX15_equal 44 = .ok (.iconst 0, 1) := by decide +kernel
theorem dX15_equal_45 : decode cX15_equal 45 = .ok (.istore_n 3, 1) := by decide +kernel
theorem dX15_equal_46 : decode cX15_equal 46 = .ok (.iconst 0, 1) := by decide +kernel
theorem dX15_equal_47 : decode cX15_equal 47 = .ok (.istore 4, 2) := by decide +kernel
theorem dX15_equal_49 : decode cX15_equal 49 = .ok (.iload 4, 2) := by decide +kernel
theorem dX15_equal_51 : decode cX15_equal 51 = .ok (.iload_n 2, 1) := by decide +kernel
theorem dX15_equal_52 : decode cX15_equal 52 = .ok (.if_icmp .ge 56, 3) := by decide +kernel
theorem dX15_equal_55 : decode cX15_equal 55 = .ok (.aload_n 0, 1) := by decide +kernel
theorem dX15_equal_56 : decode cX15_equal 56 = .ok (.getfield 170, 3) := by decide +kernel
theorem dX15_equal_59 : decode cX15_equal 59 = .ok (.iload_n 3, 1) := by decide +kernel
theorem dX15_equal_60 : decode cX15_equal 60 = .ok (.iload 4, 2) := by decide +kernel
theorem dX15_equal_62 : decode cX15_equal 62 = .ok (.iconst 1, 1) := by decide +kernel
theorem dX15_equal_63 : decode cX15_equal 63 = .ok (.iadd, 1) := by decide +kernel
theorem dX15_equal_64 : decode cX15_equal 64 = .ok (.iload_n 2, 1) := by decide +kernel
theorem dX15_equal_65 : decode cX15_equal 65 = .ok (.if_icmp .ge 26, 3) := by decide +kernel
theorem dX15_equal_68 : decode cX15_equal 68 = .ok (.aload_n 0, 1) := by decide +kernel
theorem dX15_equal_69 : decode cX15_equal 69 = .ok (.aload_n 0, 1) := by decide +kernel
theorem dX15_equal_70 : decode cX15_equal 70 = .ok (.getfield 170, 3) := by decide +kernel
theorem dX15_equal_73 : decode cX15_equal 73 = .ok (.iload 4, 2) := by decide +kernel
theorem dX15_equal_75 : decode cX15_equal 75 = .ok (.iaload, 1) := by decide +kernel
theorem dX15_equal_76 : decode cX15_equal 76 = .ok (.aload_n 0, 1) := by decide +kernel
theorem dX15_equal_77 : decode cX15_equal 77 = .ok (.getfield 170, 3) := by decide +kernel
theorem dX15_equal_80 : decode cX15_equal 80 = .ok (.iload 4, 2) := by decide +kernel
theorem dX15_equal_82 : decode cX15_equal 82 = .ok (.iconst 1, 1) := by decide +kernel
theorem dX15_equal_83 : decode cX15_equal 83 = .ok (.iadd, 1) := by decide +kernel
theorem dX15_equal_84 : decode cX15_equal 84 = .ok (.iaload, 1) := by decide +kernel
theorem dX15_equal_85 : decode cX15_equal 85 = .ok (.invokevirtual 646, 3) := by decide +kernel
theorem dX15_equal_88 : decode cX15_equal 88 = .ok (.goto 10, 3) := by decide +kernel
theorem dX15_equal_91 : decode cX15_equal 91 = .ok (.aload_n 0, 1) := by decide +kernel
theorem dX15_equal_92 : decode cX15_equal 92 = .ok (.getfield 170, 3) := by decide +kernel
theorem dX15_equal_95 : decode cX15_equal 95 = .ok (.iload 4, 2) := by decide +kernel
theorem dX15_equal_97 : decode cX15_equal 97 = .ok (.iaload, 1) := by decide +kernel
theorem dX15_equal_98 : decode cX15_equal 98 = .ok (.iastore, 1) := by decide +kernel
theorem dX15_equal_99 : decode cX15_equal 99 = .ok (.iinc 3 1, 3) := by decide +kernel
theorem dX15_equal_102 : decode cX15_equal 102 = .ok (.iinc 4 2, 3) := by decide +kernel
theorem dX15_equal_105 : decode cX15_equal 105 = .ok (.goto (-56), 3) := by decide +kernel
theorem dX15_equal_108 : decode cX15_equal 108 = .ok (.iload_n 3, 1) := by decide +kernel
theorem dX15_equal_109 : decode cX15_equal 109 = .ok (.istore_n 2, 1) := by decide +kernel
theorem dX15_equal_110 : decode cX15_equal 110 = .ok (.goto (-71), 3) := by decide +kernel
theorem dX15_equal_113 : decode cX15_equal 113 = .ok (.aload_n 0, 1) := by decide +kernel
theorem dX15_equal_114 : decode cX15_equal 114 = .ok (.getfield 170, 3) := by decide +kernel
theorem dX15_equal_117 : decode cX15_equal 117 = .ok (.iconst 0, 1) := by decide +kernel
theorem dX15_equal_118 : decode cX15_equal 118 = .ok (.iaload, 1) := by decide +kernel
theorem dX15_equal_119 : decode cX15_equal 119 = .ok (.ireturn, 1) := by decide +kernel
theorem dX15_xor_0 : decode cX15_xor 0 = .ok (.iload_n 1, 1) := by decide +kernel
theorem dX15_xor_1 : decode cX15_xor 1 = .ok (.ifCond .ge 9, 3) := by decide +kernel
theorem dX15_xor_4 : decode cX15_xor 4 = .ok (.iload_n 2, 1) := by decide +kernel
theorem dX15_xor_5 : decode cX15_xor 5 = .ok (.iload_n 1, 1) := by decide +kernel
theorem dX15_xor_6 : decode cX15_xor 6 = .ok (.iconst 1, 1) := by decide +kernel
theorem dX15_xor_7 : decode cX15_xor 7 = .ok (.iand, 1) := by decide +kernel
theorem dX15_xor_8 : decode cX15_xor 8 = .ok (.ixor, 1) := by decide +kernel
theorem dX15_xor_9 : decode cX15_xor 9 = .ok (.ireturn, 1) := by decide +kernel
theorem dX15_xor_10 : decode cX15_xor 10 = .ok (.iload_n 2, 1) := by decide +kernel
theorem dX15_xor_11 : decode cX15_xor 11 = .ok (.ifCond .ge 9, 3) := by decide +kernel
theorem dX15_xor_14 : decode cX15_xor 14 = .ok (.iload_n 1, 1) := by decide +kernel
theorem dX15_xor_15 : decode cX15_xor 15 = .ok (.iload_n 2, 1) := by decide +kernel
theorem dX15_xor_16 : decode cX15_xor 16 = .ok (.iconst 1, 1) := by decide +kernel
theorem dX15_xor_17 : decode cX15_xor 17 = .ok (.iand, 1) := by decide +kernel
theorem dX15_xor_18 : decode cX15_xor 18 = .ok (.ixor, 1) := by decide +kernel
theorem dX15_xor_19 : decode cX15_xor 19 = .ok (.ireturn, 1) := by decide +kernel
theorem dX15_xor_20 : decode cX15_xor 20 = .ok (.iload_n 1, 1) := by decide +kernel
theorem dX15_xor_21 : decode cX15_xor 21 = .ok (.iload_n 2, 1) := by decide +kernel
theorem dX15_xor_22 : decode cX15_xor 22 = .ok (.ixor, 1) := by decide +kernel
theorem dX15_xor_23 : decode cX15_xor 23 = .ok (.iconst 1, 1) := by decide +kernel
theorem dX15_xor_24 : decode cX15_xor 24 = .ok (.iand, 1) := by decide +kernel
theorem dX15_xor_25 : decode cX15_xor 25 = .ok (.istore_n 3, 1) := by decide +kernel
theorem dX15_xor_26 : decode cX15_xor 26 = .ok (.iload_n 1, 1) := by decide +kernel
theorem dX15_xor_27 : decode cX15_xor 27 = .ok (.iconst 1, 1) := by decide +kernel
theorem dX15_xor_28 : decode cX15_xor 28 = .ok (.ishr, 1) := by decide +kernel
theorem dX15_xor_29 : decode cX15_xor 29 = .ok (.iload_n 2, 1) := by decide +kernel
theorem dX15_xor_30 : decode cX15_xor 30 = .ok (.iconst 1, 1) := by decide +kernel
theorem dX15_xor_31 : decode cX15_xor 31 = .ok (.ishr, 1) := by decide +kernel
theorem dX15_xor_32 : decode cX15_xor 32 = .ok (.if_icmp .ne 8, 3) := by decide +kernel
theorem dX15_xor_35 : decode cX15_xor 35 = .ok (.bipush (-2), 2) := by decide +kernel
theorem dX15_xor_37 : decode cX15_xor 37 = .ok (.iload_n 3, 1) := by decide +kernel
theorem dX15_xor_38 : decode cX15_xor 38 = .ok (.iadd, 1) := by decide +kernel
theorem dX15_xor_39 : decode cX15_xor 39 = .ok (.ireturn, 1) := by decide +kernel
theorem dX15_xor_40 : decode cX15_xor 40 = .ok (.aload_n 0, 1) := by decide +kernel
theorem dX15_xor_41 : decode cX15_xor 41 = .ok (.iload_n 1, 1) := by decide +kernel
theorem dX15_xor_42 : decode cX15_xor 42 = .ok (.invokevirtual 636, 3) := by decide +kernel
theorem dX15_xor_45 : decode cX15_xor 45 = .ok (.istore 4, 2) := by decide +kernel
theorem dX15_xor_47 : decode cX15_xor 47 = .ok (.aload_n 0, 1) := by decide +kernel
theorem dX15_xor_48 : decode cX15_xor 48 = .ok (.iload_n 2, 1) := by decide +kernel
theorem dX15_xor_49 : decode cX15_xor 49 = .ok (.invokevirtual 636, 3) := by decide +kernel
theorem dX15_xor_52 : decode cX15_xor 52 = .ok (.istore 5, 2) := by decide +kernel
theorem dX15_xor_54 : decode cX15_xor 54 = .ok (.aload_n 0, 1) := by decide +kernel
theorem dX15_xor_55 : decode cX15_xor 55 = .ok (.iconst 0, 1) := by decide +kernel
theorem dX15_xor_56 : decode cX15_xor 56 = .ok (.iload_n 1, 1) := by decide +kernel
theorem dX15_xor_57 : decode cX15_xor 57 = .ok (.bipush (-2), 2) := by decide +kernel
theorem dX15_xor_59 : decode cX15_xor 59 = .ok (.iand, 1) := by decide +kernel
theorem dX15_xor_60 : decode cX15_xor 60 = .ok (.iload_n 2, 1) := by decide +kernel
theorem dX15_xor_61 : decode cX15_xor 61 = .ok (.bipush (-2), 2) := by decide +kernel
theorem dX15_xor_63 : decode cX15_xor 63 = .ok (.iand, 1) := by decide +kernel
theorem dX15_xor_64 : decode cX15_xor 64 = .ok (.iload 4, 2) := by decide +kernel
theorem dX15_xor_66 : decode cX15_xor 66 = .ok (.iload 5, 2) := by decide +kernel
theorem dX15_xor_68 : decode cX15_xor 68 = .ok (.if_icmp .le 8, 3) := by decide +kernel
theorem dX15_xor_71 : decode cX15_xor 71 = .ok (.iload 4, 2) := by decide +kernel
theorem dX15_xor_73 : decode cX15_xor 73 = .ok (.goto 5, 3) := by decide +kernel
theorem dX15_xor_76 : decode cX15_xor 76 = .ok (.iload 5, 2) := by decide +kernel
theorem dX15_xor_78 : decode cX15_xor 78 = .ok (.invokevirtual 639, 3) := by decide +kernel
theorem dX15_xor_81 : decode cX15_xor 81 = .ok (.iload_n 3, 1) := by decide +kernel
theorem dX15_xor_82 : decode cX15_xor 82 = .ok (.ixor, 1) := by decide +kernel
theorem dX15_xor_83 : decode cX15_xor 83 = .ok (.ireturn, 1) := by decide +kernel
theorem dX15_levelOf_0 : decode cX15_levelOf 0 = .ok (.iload_n 1, 1) := by decide +kernel
theorem dX15_levelOf_1 : decode cX15_levelOf 1 = .ok (.iconst 1, 1) := by decide +kernel
theorem dX15_levelOf_2 : decode cX15_levelOf 2 = .ok (.ishr, 1) := by decide +kernel
theorem dX15_levelOf_3 : decode cX15_levelOf 3 = .ok (.aload_n 0, 1) := by decide +kernel
theorem dX15_levelOf_4 : decode cX15_levelOf 4 = .ok (.getfield 618, 3) := by decide +kernel
theorem dX15_levelOf_7 : decode cX15_levelOf 7 = .ok (.isub, 1) := by decide +kernel
theorem dX15_levelOf_8 : decode cX15_levelOf 8 = .ok (.istore_n 2, 1) := by decide +kernel
theorem dX15_levelOf_9 : decode cX15_levelOf 9 = .ok (.iload_n 1, 1) := by decide +kernel
theorem dX15_levelOf_10 : decode cX15_levelOf 10 = .ok (.ifCond .lt 7, 3) := by decide +kernel
theorem dX15_levelOf_13 : decode cX15_levelOf 13 = .ok (.iload_n 2, 1) := by decide +kernel
theorem dX15_levelOf_14 : decode cX15_levelOf 14 = .ok (.ifCond .ge 7, 3) := by decide +kernel
theorem dX15_levelOf_17 : decode cX15_levelOf 17 = .ok (.iconst 0, 1) := by decide +kernel
theorem dX15_levelOf_18 : decode cX15_levelOf 18 = .ok (.goto 9, 3) := by decide +kernel
theorem dX15_levelOf_21 : decode cX15_levelOf 21 = .ok (.aload_n 0, 1) := by decide +kernel
theorem dX15_levelOf_22 : decode cX15_levelOf 22 = .ok (.getfield 127, 3) := by decide +kernel
theorem dX15_levelOf_25 : decode cX15_levelOf 25 = .ok (.iload_n 2, 1) := by decide +kernel
theorem dX15_levelOf_26 : decode cX15_levelOf 26 = .ok (.iaload, 1) := by decide +kernel
theorem dX15_levelOf_27 : decode cX15_levelOf 27 = .ok (.ireturn, 1) := by decide +kernel
theorem dX15_newGate_0 : decode cX15_newGate 0 = .ok (.aload_n 0, 1) := by decide +kernel
theorem dX15_newGate_1 : decode cX15_newGate 1 = .ok (.getfield 624, 3) := by decide +kernel
theorem dX15_newGate_4 : decode cX15_newGate 4 = .ok (.ldc 123, 2) := by decide +kernel
theorem dX15_newGate_6 : decode cX15_newGate 6 = .ok (.if_icmp .eq 11, 3) := by decide +kernel
theorem dX15_newGate_9 : decode cX15_newGate 9 = .ok (.iload 4, 2) := by decide +kernel
theorem dX15_newGate_11 : decode cX15_newGate 11 = .ok (.sipush 2000, 3) := by decide +kernel
theorem dX15_newGate_14 : decode cX15_newGate 14 = .ok (.if_icmp .le 16, 3) := by decide +kernel
theorem dX15_newGate_17 : decode cX15_newGate 17 = .ok (.aload_n 0, 1) := by decide +kernel
theorem dX15_newGate_18 : decode cX15_newGate 18 = .ok (.bipush 8, 2) := by decide +kernel
theorem dX15_newGate_20 : decode cX15_newGate 20 = .ok (.aload_n 0, 1) := by decide +kernel
theorem dX15_newGate_21 : decode cX15_newGate 21 = .ok (.invokevirtual 627, 3) := by decide +kernel
theorem dX15_newGate_24 : decode cX15_newGate 24 = .ok (.invokevirtual 390, 3) := by decide +kernel
theorem dX15_newGate_27 : decode cX15_newGate 27 = .ok (.bipush (-2), 2) := by decide +kernel
theorem dX15_newGate_29 : decode cX15_newGate 29 = .ok (.ireturn, 1) := by decide +kernel
theorem dX15_newGate_30 : decode cX15_newGate 30 = .ok (.aload_n 0, 1) := by decide +kernel
theorem dX15_newGate_31 : decode cX15_newGate 31 = .ok (.getfield 124, 3) := by decide +kernel
theorem dX15_newGate_34 : decode cX15_newGate 34 = .ok (.aload_n 0, 1) := by decide +kernel
theorem dX15_newGate_35 : decode cX15_newGate 35 = .ok (.getfield 624, 3) := by decide +kernel
theorem dX15_newGate_38 : decode cX15_newGate 38 = .ok (.iload_n 1, 1) := by decide +kernel
theorem dX15_newGate_39 : decode cX15_newGate 39 = .ok (.iastore, 1) := by decide +kernel
theorem dX15_newGate_40 : decode cX15_newGate 40 = .ok (.aload_n 0, 1) := by decide +kernel
theorem dX15_newGate_41 : decode cX15_newGate 41 = .ok (.getfield 127, 3) := by decide +kernel
theorem dX15_newGate_44 : decode cX15_newGate 44 = .ok (.aload_n 0, 1) := by decide +kernel
theorem dX15_newGate_45 : decode cX15_newGate 45 = .ok (.getfield 624, 3) := by decide +kernel
theorem dX15_newGate_48 : decode cX15_newGate 48 = .ok (.iload 4, 2) := by decide +kernel
theorem dX15_newGate_50 : decode cX15_newGate 50 = .ok (.iastore, 1) := by decide +kernel
theorem dX15_newGate_51 : decode cX15_newGate 51 = .ok (.aload_n 0, 1) := by decide +kernel
theorem dX15_newGate_52 : decode cX15_newGate 52 = .ok (.getfield 130, 3) := by decide +kernel
theorem dX15_newGate_55 : decode cX15_newGate 55 = .ok (.aload_n 0, 1) := by decide +kernel
theorem dX15_newGate_56 : decode cX15_newGate 56 = .ok (.getfield 624, 3) := by decide +kernel
theorem dX15_newGate_59 : decode cX15_newGate 59 = .ok (.iload_n 2, 1) := by decide +kernel
theorem dX15_newGate_60 : decode cX15_newGate 60 = .ok (.iastore, 1) := by decide +kernel
theorem dX15_newGate_61 : decode cX15_newGate 61 = .ok (.aload_n 0, 1) := by decide +kernel
theorem dX15_newGate_62 : decode cX15_newGate 62 = .ok (.getfield 133, 3) := by decide +kernel
theorem dX15_newGate_65 : decode cX15_newGate 65 = .ok (.aload_n 0, 1) := by decide +kernel
theorem dX15_newGate_66 : decode cX15_newGate 66 = .ok (.getfield 624, 3) := by decide +kernel
theorem dX15_newGate_69 : decode cX15_newGate 69 = .ok (.iload_n 3, 1) := by decide +kernel
theorem dX15_newGate_70 : decode cX15_newGate 70 = .ok (.iastore, 1) := by decide +kernel
theorem dX15_newGate_71 : decode cX15_newGate 71 = .ok (.aload_n 0, 1) := by decide +kernel
theorem dX15_newGate_72 : decode cX15_newGate 72 = .ok (.dup, 1) := by decide +kernel
theorem dX15_newGate_73 : decode cX15_newGate 73 = .ok (.getfield 624, 3) := by decide +kernel
theorem dX15_newGate_76 : decode cX15_newGate 76 = .ok (.iconst 1, 1) := by decide +kernel
theorem dX15_newGate_77 : decode cX15_newGate 77 = .ok (.iadd, 1) := by decide +kernel
theorem dX15_newGate_78 : decode cX15_newGate 78 = .ok (.putfield 624, 3) := by decide +kernel
theorem dX15_newGate_81 : decode cX15_newGate 81 = .ok (.aload_n 0, 1) := by decide +kernel
theorem dX15_newGate_82 : decode cX15_newGate 82 = .ok (.dup, 1) := by decide +kernel
theorem dX15_newGate_83 : decode cX15_newGate 83 = .ok (.getfield 630, 3) := by decide +kernel
theorem dX15_newGate_86 : decode cX15_newGate 86 = .ok (.iload_n 1, 1) := by decide +kernel
theorem dX15_newGate_87 : decode cX15_newGate 87 = .ok (.iadd, 1) := by decide +kernel
theorem dX15_newGate_88 : decode cX15_newGate 88 = .ok (.putfield 630, 3) := by decide +kernel
theorem dX15_newGate_91 : decode cX15_newGate 91 = .ok (.aload_n 0, 1) := by decide +kernel
theorem dX15_newGate_92 : decode cX15_newGate 92 = .ok (.iload 4, 2) := by decide +kernel
theorem dX15_newGate_94 : decode cX15_newGate 94 = .ok (.aload_n 0, 1) := by decide +kernel
theorem dX15_newGate_95 : decode cX15_newGate 95 = .ok (.getfield 633, 3) := by decide +kernel
theorem dX15_newGate_98 : decode cX15_newGate 98 = .ok (.if_icmp .le 8, 3) := by decide +kernel
theorem dX15_newGate_101 : decode cX15_newGate 101 = .ok (.iload 4, 2) := by decide +kernel
theorem dX15_newGate_103 : decode cX15_newGate 103 = .ok (.goto 7, 3) := by decide +kernel
theorem dX15_newGate_106 : decode cX15_newGate 106 = .ok (.aload_n 0, 1) := by decide +kernel
theorem dX15_newGate_107 : decode cX15_newGate 107 = .ok (.getfield 633, 3) := by decide +kernel
theorem dX15_newGate_110 : decode cX15_newGate 110 = .ok (.putfield 633, 3) := by decide +kernel
theorem dX15_newGate_113 : decode cX15_newGate 113 = .ok (.iconst 2, 1) := by decide +kernel
theorem dX15_newGate_114 : decode cX15_newGate 114 = .ok (.aload_n 0, 1) := by decide +kernel
theorem dX15_newGate_115 : decode cX15_newGate 115 = .ok (.getfield 618, 3) := by decide +kernel
theorem dX15_newGate_118 : decode cX15_newGate 118 = .ok (.aload_n 0, 1) := by decide +kernel
theorem dX15_newGate_119 : decode cX15_newGate 119 = .ok (.getfield 624, 3) := by decide +kernel
theorem dX15_newGate_122 : decode cX15_newGate 122 = .ok (.iadd, 1) := by decide +kernel
theorem dX15_newGate_123 : decode cX15_newGate 123 = .ok (.iconst 1, 1) := by decide +kernel
theorem dX15_newGate_124 : decode cX15_newGate 124 = .ok (.isub, 1) := by decide +kernel
theorem dX15_newGate_125 : decode cX15_newGate 125 = .ok (.imul, 1) := by decide +kernel
theorem dX15_newGate_126 : decode cX15_newGate 126 = .ok (.ireturn, 1) := by decide +kernel
theorem dX15_and_0 : decode cX15_and 0 = .ok (.iload_n 1, 1) := by decide +kernel
theorem dX15_and_1 : decode cX15_and 1 = .ok (.ifCond .ge 15, 3) := by decide +kernel
theorem dX15_and_4 : decode cX15_and 4 = .ok (.iload_n 1, 1) := by decide +kernel
theorem dX15_and_5 : decode cX15_and 5 = .ok (.iconst (-1), 1) := by decide +kernel
theorem dX15_and_6 : decode cX15_and 6 = .ok (.if_icmp .ne 7, 3) := by decide +kernel
theorem dX15_and_9 : decode cX15_and 9 = .ok (.iload_n 2, 1) := by decide +kernel
theorem dX15_and_10 : decode cX15_and 10 = .ok (.goto 5, 3) := by decide +kernel
theorem dX15_and_13 : decode cX15_and 13 = .ok (.bipush (-2), 2) := by decide +kernel
theorem dX15_and_15 : decode cX15_and 15 = .ok (.ireturn, 1) := by decide +kernel
theorem dX15_and_16 : decode cX15_and 16 = .ok (.iload_n 2, 1) := by decide +kernel
theorem dX15_and_17 : decode cX15_and 17 = .ok (.ifCond .ge 15, 3) := by decide +kernel
theorem dX15_and_20 : decode cX15_and 20 = .ok (.iload_n 2, 1) := by decide +kernel
theorem dX15_and_21 : decode cX15_and 21 = .ok (.iconst (-1), 1) := by decide +kernel
theorem dX15_and_22 : decode cX15_and 22 = .ok (.if_icmp .ne 7, 3) := by decide +kernel
theorem dX15_and_25 : decode cX15_and 25 = .ok (.iload_n 1, 1) := by decide +kernel
theorem dX15_and_26 : decode cX15_and 26 = .ok (.goto 5, 3) := by decide +kernel
theorem dX15_and_29 : decode cX15_and 29 = .ok (.bipush (-2), 2) := by decide +kernel
theorem dX15_and_31 : decode cX15_and 31 = .ok (.ireturn, 1) := by decide +kernel
theorem dX15_and_32 : decode cX15_and 32 = .ok (.iload_n 1, 1) := by decide +kernel
theorem dX15_and_33 : decode cX15_and 33 = .ok (.iconst 1, 1) := by decide +kernel
theorem dX15_and_34 : decode cX15_and 34 = .ok (.ishr, 1) := by decide +kernel
theorem dX15_and_35 : decode cX15_and 35 = .ok (.iload_n 2, 1) := by decide +kernel
theorem dX15_and_36 : decode cX15_and 36 = .ok (.iconst 1, 1) := by decide +kernel
theorem dX15_and_37 : decode cX15_and 37 = .ok (.ishr, 1) := by decide +kernel
theorem dX15_and_38 : decode cX15_and 38 = .ok (.if_icmp .ne 15, 3) := by decide +kernel
theorem dX15_and_41 : decode cX15_and 41 = .ok (.iload_n 1, 1) := by decide +kernel
theorem dX15_and_42 : decode cX15_and 42 = .ok (.iload_n 2, 1) := by decide +kernel
theorem dX15_and_43 : decode cX15_and 43 = .ok (.if_icmp .ne 7, 3) := by decide +kernel
theorem dX15_and_46 : decode cX15_and 46 = .ok (.iload_n 1, 1) := by decide +kernel
theorem dX15_and_47 : decode cX15_and 47 = .ok (.goto 5, 3) := by decide +kernel
theorem dX15_and_50 : decode cX15_and 50 = .ok (.bipush (-2), 2) := by decide +kernel
theorem dX15_and_52 : decode cX15_and 52 = .ok (.ireturn, 1) := by decide +kernel
theorem dX15_and_53 : decode cX15_and 53 = .ok (.aload_n 0, 1) := by decide +kernel
theorem dX15_and_54 : decode cX15_and 54 = .ok (.iload_n 1, 1) := by decide +kernel
theorem dX15_and_55 : decode cX15_and 55 = .ok (.invokevirtual 636, 3) := by decide +kernel
theorem dX15_and_58 : decode cX15_and 58 = .ok (.istore_n 3, 1) := by decide +kernel
theorem dX15_and_59 : decode cX15_and 59 = .ok (.aload_n 0, 1) := by decide +kernel
theorem dX15_and_60 : decode cX15_and 60 = .ok (.iload_n 2, 1) := by decide +kernel
theorem dX15_and_61 : decode cX15_and 61 = .ok (.invokevirtual 636, 3) := by decide +kernel
theorem dX15_and_64 : decode cX15_and 64 = .ok (.istore 4, 2) := by decide +kernel
theorem dX15_and_66 : decode cX15_and 66 = .ok (.aload_n 0, 1) := by decide +kernel
theorem dX15_and_67 : decode cX15_and 67 = .ok (.iconst 1, 1) := by decide +kernel
theorem dX15_and_68 : decode cX15_and 68 = .ok (.iload_n 1, 1) := by decide +kernel
theorem dX15_and_69 : decode cX15_and 69 = .ok (.iload_n 2, 1) := by decide +kernel
theorem dX15_and_70 : decode cX15_and 70 = .ok (.iconst 1, 1) := by decide +kernel
theorem dX15_and_71 : decode cX15_and 71 = .ok (.iload_n 3, 1) := by decide +kernel
theorem dX15_and_72 : decode cX15_and 72 = .ok (.iload 4, 2) := by decide +kernel
theorem dX15_and_74 : decode cX15_and 74 = .ok (.if_icmp .le 7, 3) := by decide +kernel
theorem dX15_and_77 : decode cX15_and 77 = .ok (.iload_n 3, 1) := by decide +kernel
theorem dX15_and_78 : decode cX15_and 78 = .ok (.goto 5, 3) := by decide +kernel
theorem dX15_and_81 : decode cX15_and 81 = .ok (.iload 4, 2) := by decide +kernel
theorem dX15_and_83 : decode cX15_and 83 = .ok (.iadd, 1) := by decide +kernel
theorem dX15_and_84 : decode cX15_and 84 = .ok (.invokevirtual 639, 3) := by decide +kernel
theorem dX15_and_87 : decode cX15_and 87 = .ok (.ireturn, 1) := by decide +kernel
theorem dX15_bodyOf_0 : decode cX15_bodyOf 0 = .ok (.iload_n 1, 1) := by decide +kernel
theorem dX15_bodyOf_1 : decode cX15_bodyOf 1 = .ok (.aload_n 0, 1) := by decide +kernel
theorem dX15_bodyOf_2 : decode cX15_bodyOf 2 = .ok (.getfield 28, 3) := by decide +kernel
theorem dX15_bodyOf_5 : decode cX15_bodyOf 5 = .ok (.iload_n 1, 1) := by decide +kernel
theorem dX15_bodyOf_6 : decode cX15_bodyOf 6 = .ok (.iaload, 1) := by decide +kernel
theorem dX15_bodyOf_7 : decode cX15_bodyOf 7 = .ok (.iadd, 1) := by decide +kernel
theorem dX15_bodyOf_8 : decode cX15_bodyOf 8 = .ok (.iconst 2, 1) := by decide +kernel
theorem dX15_bodyOf_9 : decode cX15_bodyOf 9 = .ok (.iadd, 1) := by decide +kernel
theorem dX15_bodyOf_10 : decode cX15_bodyOf 10 = .ok (.ireturn, 1) := by decide +kernel
theorem dX15_unary_0 : decode cX15_unary 0 = .ok (.iload_n 1, 1) := by decide +kernel
theorem dX15_unary_1 : decode cX15_unary 1 = .ok (.bipush 33, 2) := by decide +kernel
theorem dX15_unary_3 : decode cX15_unary 3 = .ok (.if_icmp .ne 7, 3) := by decide +kernel
theorem dX15_unary_6 : decode cX15_unary 6 = .ok (.iconst 1, 1) := by decide +kernel
theorem dX15_unary_7 : decode cX15_unary 7 = .ok (.goto 7, 3) := by decide +kernel
theorem dX15_unary_10 : decode cX15_unary 10 = .ok (.aload_n 0, 1) := by decide +kernel
theorem dX15_unary_11 : decode cX15_unary 11 = .ok (.getfield 303, 3) := by decide +kernel
theorem dX15_unary_14 : decode cX15_unary 14 = .ok (.istore_n 2, 1) := by decide +kernel
theorem dX15_unary_15 : decode cX15_unary 15 = .ok (.aload_n 0, 1) := by decide +kernel
theorem dX15_unary_16 : decode cX15_unary 16 = .ok (.iload_n 2, 1) := by decide +kernel
theorem dX15_unary_17 : decode cX15_unary 17 = .ok (.invokevirtual 709, 3) := by decide +kernel
theorem dX15_unary_20 : decode cX15_unary 20 = .ok (.iload_n 1, 1) := by decide +kernel
theorem dX15_unary_21 : decode cX15_unary 21 = .ok (.bipush 45, 2) := by decide +kernel
theorem dX15_unary_23 : decode cX15_unary 23 = .ok (.if_icmp .ne 53, 3) := by decide +kernel
theorem dX15_unary_26 : decode cX15_unary 26 = .ok (.iconst 0, 1) := by decide +kernel
theorem dX15_unary_27 : decode cX15_unary 27 = .ok (.istore_n 3, 1) := by decide +kernel
theorem dX15_unary_28 : decode cX15_unary 28 = .ok (.iload_n 3, 1) := by decide +kernel
theorem dX15_unary_29 : decode cX15_unary 29 = .ok (.aload_n 0, 1) := by decide +kernel
theorem dX15_unary_30 : decode cX15_unary 30 = .ok (.getfield 303, 3) := by decide +kernel
theorem dX15_unary_33 : decode cX15_unary 33 = .ok (.if_icmp .ge 31, 3) := by decide +kernel
theorem dX15_unary_36 : decode cX15_unary 36 = .ok (.aload_n 0, 1) := by decide +kernel
theorem dX15_unary_37 : decode cX15_unary 37 = .ok (.getfield 164, 3) := by decide +kernel
theorem dX15_unary_40 : decode cX15_unary 40 = .ok (.iload_n 3, 1) := by decide +kernel
theorem dX15_unary_41 : decode cX15_unary 41 = .ok (.aload_n 0, 1) := by decide +kernel
theorem dX15_unary_42 : decode cX15_unary 42 = .ok (.getfield 161, 3) := by decide +kernel
theorem dX15_unary_45 : decode cX15_unary 45 = .ok (.iload_n 3, 1) := by decide +kernel
theorem dX15_unary_46 : decode cX15_unary 46 = .ok (.iaload, 1) := by decide +kernel
theorem dX15_unary_47 : decode cX15_unary 47 = .ok (.iconst 1, 1) := by decide +kernel
theorem dX15_unary_48 : decode cX15_unary 48 = .ok (.ixor, 1) := by decide +kernel
theorem dX15_unary_49 : decode cX15_unary 49 = .ok (.iastore, 1) := by decide +kernel
theorem dX15_unary_50 : decode cX15_unary 50 = .ok (.aload_n 0, 1) := by decide +kernel
theorem dX15_unary_51 : decode cX15_unary 51 = .ok (.getfield 161, 3) := by decide +kernel
theorem dX15_unary_54 : decode cX15_unary 54 = .ok (.iload_n 3, 1) := by decide +kernel
theorem dX15_unary_55 : decode cX15_unary 55 = .ok (.bipush (-2), 2) := by decide +kernel
theorem dX15_unary_57 : decode cX15_unary 57 = .ok (.iastore, 1) := by decide +kernel
theorem dX15_unary_58 : decode cX15_unary 58 = .ok (.iinc 3 1, 3) := by decide +kernel
theorem dX15_unary_61 : decode cX15_unary 61 = .ok (.goto (-33), 3) := by decide +kernel
theorem dX15_unary_64 : decode cX15_unary 64 = .ok (.aload_n 0, 1) := by decide +kernel
theorem dX15_unary_65 : decode cX15_unary 65 = .ok (.aload_n 0, 1) := by decide +kernel
theorem dX15_unary_66 : decode cX15_unary 66 = .ok (.getfield 303, 3) := by decide +kernel
theorem dX15_unary_69 : decode cX15_unary 69 = .ok (.iconst (-1), 1) := by decide +kernel
theorem dX15_unary_70 : decode cX15_unary 70 = .ok (.invokevirtual 652, 3) := by decide +kernel
theorem dX15_unary_73 : decode cX15_unary 73 = .ok (.goto 30, 3) := by decide +kernel
theorem dX15_unary_76 : decode cX15_unary 76 = .ok (.iconst 0, 1) := by decide +kernel
theorem dX15_unary_77 : decode cX15_unary 77 = .ok (.istore_n 3, 1) := by decide +kernel
theorem dX15_unary_78 : decode cX15_unary 78 = .ok (.iload_n 3, 1) := by decide +kernel
theorem dX15_unary_79 : decode cX15_unary 79 = .ok (.iload_n 2, 1) := by decide +kernel
theorem dX15_unary_80 : decode cX15_unary 80 = .ok (.if_icmp .ge 23, 3) := by decide +kernel
theorem dX15_unary_83 : decode cX15_unary 83 = .ok (.aload_n 0, 1) := by decide +kernel
theorem dX15_unary_84 : decode cX15_unary 84 = .ok (.getfield 167, 3) := by decide +kernel
theorem dX15_unary_87 : decode cX15_unary 87 = .ok (.iload_n 3, 1) := by decide +kernel
theorem dX15_unary_88 : decode cX15_unary 88 = .ok (.aload_n 0, 1) := by decide +kernel
theorem dX15_unary_89 : decode cX15_unary 89 = .ok (.getfield 161, 3) := by decide +kernel
theorem dX15_unary_92 : decode cX15_unary 92 = .ok (.iload_n 3, 1) := by decide +kernel
theorem dX15_unary_93 : decode cX15_unary 93 = .ok (.iaload, 1) := by decide +kernel
theorem dX15_unary_94 : decode cX15_unary 94 = .ok (.iconst 1, 1) := by decide +kernel
theorem dX15_unary_95 : decode cX15_unary 95 = .ok (.ixor, 1) := by decide +kernel
theorem dX15_unary_96 : decode cX15_unary 96 = .ok (.iastore, 1) := by decide +kernel
theorem dX15_unary_97 : decode cX15_unary 97 = .ok (.iinc 3 1, 3) := by decide +kernel
theorem dX15_unary_100 : decode cX15_unary 100 = .ok (.goto (-22), 3) := by decide +kernel
theorem dX15_unary_103 : decode cX15_unary 103 = .ok (.aload_n 0, 1) := by decide +kernel
theorem dX15_unary_104 : decode cX15_unary 104 = .ok (.iload_n 2, 1) := by decide +kernel
theorem dX15_unary_105 : decode cX15_unary 105 = .ok (.invokevirtual 697, 3) := by decide +kernel
theorem dX15_unary_108 : decode cX15_unary 108 = .ok (.return_, 1) := by decide +kernel
theorem dX15_sum_0 : decode cX15_sum 0 = .ok (.iload_n 2, 1) := by decide +kernel
theorem dX15_sum_1 : decode cX15_sum 1 = .ok (.istore_n 3, 1) := by decide +kernel
theorem dX15_sum_2 : decode cX15_sum 2 = .ok (.iconst 0, 1) := by decide +kernel
theorem dX15_sum_3 : decode cX15_sum 3 = .ok (.istore 4, 2) := by decide +kernel
theorem dX15_sum_5 : decode cX15_sum 5 = .ok (.iload 4, 2) := by decide +kernel
theorem dX15_sum_7 : decode cX15_sum 7 = .ok (.iload_n 1, 1) := by decide +kernel
theorem dX15_sum_8 : decode cX15_sum 8 = .ok (.if_icmp .ge 79, 3) := by decide +kernel
theorem dX15_sum_11 : decode cX15_sum 11 = .ok (.aload_n 0, 1) := by decide +kernel
theorem dX15_sum_12 : decode cX15_sum 12 = .ok (.aload_n 0, 1) := by decide +kernel
theorem dX15_sum_13 : decode cX15_sum 13 = .ok (.getfield 164, 3) := by decide +kernel
theorem dX15_sum_16 : decode cX15_sum 16 = .ok (.iload 4, 2) := by decide +kernel
theorem dX15_sum_18 : decode cX15_sum 18 = .ok (.iaload, 1) := by decide +kernel
theorem dX15_sum_19 : decode cX15_sum 19 = .ok (.iload_n 3, 1) := by decide +kernel
theorem dX15_sum_20 : decode cX15_sum 20 = .ok (.invokevirtual 642, 3) := by decide +kernel
theorem dX15_sum_23 : decode cX15_sum 23 = .ok (.istore 5, 2) := by decide +kernel
theorem dX15_sum_25 : decode cX15_sum 25 = .ok (.aload_n 0, 1) := by decide +kernel
theorem dX15_sum_26 : decode cX15_sum 26 = .ok (.getfield 167, 3) := by decide +kernel
theorem dX15_sum_29 : decode cX15_sum 29 = .ok (.iload 4, 2) := by decide +kernel
theorem dX15_sum_31 : decode cX15_sum 31 = .ok (.aload_n 0, 1) := by decide +kernel
theorem dX15_sum_32 : decode cX15_sum 32 = .ok (.aload_n 0, 1) := by decide +kernel
theorem dX15_sum_33 : decode cX15_sum 33 = .ok (.getfield 161, 3) := by decide +kernel
theorem dX15_sum_36 : decode cX15_sum 36 = .ok (.iload 4, 2) := by decide +kernel
theorem dX15_sum_38 : decode cX15_sum 38 = .ok (.iaload, 1) := by decide +kernel
theorem dX15_sum_39 : decode cX15_sum 39 = .ok (.iload 5, 2) := by decide +kernel
theorem dX15_sum_41 : decode cX15_sum 41 = .ok (.invokevirtual 642, 3) := by decide +kernel
theorem dX15_sum_44 : decode cX15_sum 44 = .ok (.iastore, 1) := by decide +kernel
theorem dX15_sum_45 : decode cX15_sum 45 = .ok (.iload 4, 2) := by decide +kernel
theorem dX15_sum_47 : decode cX15_sum 47 = .ok (.iload_n 1, 1) := by decide +kernel
theorem dX15_sum_48 : decode cX15_sum 48 = .ok (.iconst 1, 1) := by decide +kernel
theorem dX15_sum_49 : decode cX15_sum 49 = .ok (.isub, 1) := by decide +kernel
theorem dX15_sum_50 : decode cX15_sum 50 = .ok (.if_icmp .ge 31, 3) := by decide +kernel
theorem dX15_sum_53 : decode cX15_sum 53 = .ok (.aload_n 0, 1) := by decide +kernel
theorem dX15_sum_54 : decode cX15_sum 54 = .ok (.aload_n 0, 1) := by decide +kernel
theorem dX15_sum_55 : decode cX15_sum 55 = .ok (.getfield 161, 3) := by decide +kernel
theorem dX15_sum_58 : decode cX15_sum 58 = .ok (.iload 4, 2) := by decide +kernel
theorem dX15_sum_60 : decode cX15_sum 60 = .ok (.iaload, 1) := by decide +kernel
theorem dX15_sum_61 : decode cX15_sum 61 = .ok (.iload_n 3, 1) := by decide +kernel
theorem dX15_sum_62 : decode cX15_sum 62 = .ok (.invokevirtual 642, 3) := by decide +kernel
theorem dX15_sum_65 : decode cX15_sum 65 = .ok (.istore 6, 2) := by decide +kernel
theorem dX15_sum_67 : decode cX15_sum 67 = .ok (.aload_n 0, 1) := by decide +kernel
theorem dX15_sum_68 : decode cX15_sum 68 = .ok (.iload_n 3, 1) := by decide +kernel
theorem dX15_sum_69 : decode cX15_sum 69 = .ok (.aload_n 0, 1) := by decide +kernel
theorem dX15_sum_70 : decode cX15_sum 70 = .ok (.iload 6, 2) := by decide +kernel
theorem dX15_sum_72 : decode cX15_sum 72 = .ok (.iload 5, 2) := by decide +kernel
theorem dX15_sum_74 : decode cX15_sum 74 = .ok (.invokevirtual 646, 3) := by decide +kernel
theorem dX15_sum_77 : decode cX15_sum 77 = .ok (.invokevirtual 642, 3) := by decide +kernel
theorem dX15_sum_80 : decode cX15_sum 80 = .ok (.istore_n 3, 1) := by decide +kernel
theorem dX15_sum_81 : decode cX15_sum 81 = .ok (.iinc 4 1, 3) := by decide +kernel
theorem dX15_sum_84 : decode cX15_sum 84 = .ok (.goto (-79), 3) := by decide +kernel
theorem dX15_sum_87 : decode cX15_sum 87 = .ok (.return_, 1) := by decide +kernel
theorem dX15_binary_0 : decode cX15_binary 0 = .ok (.aload_n 0, 1) := by decide +kernel
theorem dX15_binary_1 : decode cX15_binary 1 = .ok (.getfield 25, 3) := by decide +kernel
theorem dX15_binary_4 : decode cX15_binary 4 = .ok (.iload_n 1, 1) := by decide +kernel
theorem dX15_binary_5 : decode cX15_binary 5 = .ok (.iaload, 1) := by decide +kernel
theorem dX15_binary_6 : decode cX15_binary 6 = .ok (.istore_n 2, 1) := by decide +kernel
theorem dX15_binary_7 : decode cX15_binary 7 = .ok (.aload_n 0, 1) := by decide +kernel
theorem dX15_binary_8 : decode cX15_binary 8 = .ok (.aload_n 0, 1) := by decide +kernel
theorem dX15_binary_9 : decode cX15_binary 9 = .ok (.getfield 28, 3) := by decide +kernel
theorem dX15_binary_12 : decode cX15_binary 12 = .ok (.iload_n 1, 1) := by decide +kernel
theorem dX15_binary_13 : decode cX15_binary 13 = .ok (.iaload, 1) := by decide +kernel
theorem dX15_binary_14 : decode cX15_binary 14 = .ok (.invokevirtual 666, 3) := by decide +kernel
theorem dX15_binary_17 : decode cX15_binary 17 = .ok (.istore_n 3, 1) := by decide +kernel
theorem dX15_binary_18 : decode cX15_binary 18 = .ok (.iload_n 2, 1) := by decide +kernel
theorem dX15_binary_19 : decode cX15_binary 19 = .ok (.bipush 12, 2) := by decide +kernel
theorem dX15_binary_21 : decode cX15_binary 21 = .ok (.if_icmp .eq 9, 3) := by decide +kernel
theorem dX15_binary_24 : decode cX15_binary 24 = .ok (.iload_n 2, 1) := by decide +kernel
theorem dX15_binary_25 : decode cX15_binary 25 = .ok (.bipush 13, 2) := by decide +kernel
theorem dX15_binary_27 : decode cX15_binary 27 = .ok (.if_icmp .ne 149, 3) := by decide +kernel
theorem dX15_binary_30 : decode cX15_binary 30 = .ok (.aload_n 0, 1) := by decide +kernel
theorem dX15_binary_31 : decode cX15_binary 31 = .ok (.aload_n 0, 1) := by decide +kernel
theorem dX15_binary_32 : decode cX15_binary 32 = .ok (.getfield 649, 3) := by decide +kernel
theorem dX15_binary_35 : decode cX15_binary 35 = .ok (.iconst 1, 1) := by decide +kernel
theorem dX15_binary_36 : decode cX15_binary 36 = .ok (.isub, 1) := by decide +kernel
theorem dX15_binary_37 : decode cX15_binary 37 = .ok (.invokevirtual 712, 3) := by decide +kernel
theorem dX15_binary_40 : decode cX15_binary 40 = .ok (.lstore 4, 2) := by decide +kernel
theorem dX15_binary_42 : decode cX15_binary 42 = .ok (.lload 4, 2) := by decide +kernel
theorem dX15_binary_44 : decode cX15_binary 44 = .ok (.aload_n 0, 1) := by decide +kernel
theorem dX15_binary_45 : decode cX15_binary 45 = .ok (.getfield 303, 3) := by decide +kernel
theorem dX15_binary_48 : decode cX15_binary 48 = .ok (.i2l, 1) := by decide +kernel
theorem dX15_binary_49 : decode cX15_binary 49 = .ok (.lcmp, 1) := by decide +kernel
theorem dX15_binary_50 : decode cX15_binary 50 = .ok (.ifCond .lt 16, 3) := by decide +kernel
theorem dX15_binary_53 : decode cX15_binary 53 = .ok (.aload_n 0, 1) := by decide +kernel
theorem dX15_binary_54 : decode cX15_binary 54 = .ok (.bipush 7, 2) := by decide +kernel
theorem dX15_binary_56 : decode cX15_binary 56 = .ok (.aload_n 0, 1) := by decide +kernel
theorem dX15_binary_57 : decode cX15_binary 57 = .ok (.getfield 108, 3) := by decide +kernel
theorem dX15_binary_60 : decode cX15_binary 60 = .ok (.iload_n 1, 1) := by decide +kernel
theorem dX15_binary_61 : decode cX15_binary 61 = .ok (.iaload, 1) := by decide +kernel
theorem dX15_binary_62 : decode cX15_binary 62 = .ok (.invokevirtual 390, 3) := by decide +kernel
theorem dX15_binary_65 : decode cX15_binary 65 = .ok (.return_, 1) := by decide +kernel
theorem dX15_binary_66 : decode cX15_binary 66 = .ok (.aload_n 0, 1) := by decide +kernel
theorem dX15_binary_67 : decode cX15_binary 67 = .ok (.dup, 1) := by decide +kernel
theorem dX15_binary_68 : decode cX15_binary 68 = .ok (.getfield 649, 3) := by decide +kernel
theorem dX15_binary_71 : decode cX15_binary 71 = .ok (.iconst 1, 1) := by decide +kernel
theorem dX15_binary_72 : decode cX15_binary 72 = .ok (.isub, 1) := by decide +kernel
theorem dX15_binary_73 : decode cX15_binary 73 = .ok (.putfield 649, 3) := by decide +kernel
theorem dX15_binary_76 : decode cX15_binary 76 = .ok (.aload_n 0, 1) := by decide +kernel
theorem dX15_binary_77 : decode cX15_binary 77 = .ok (.aload_n 0, 1) := by decide +kernel
theorem dX15_binary_78 : decode cX15_binary 78 = .ok (.getfield 303, 3) := by decide +kernel
theorem dX15_binary_81 : decode cX15_binary 81 = .ok (.invokevirtual 709, 3) := by decide +kernel
theorem dX15_binary_84 : decode cX15_binary 84 = .ok (.iconst 0, 1) := by decide +kernel
theorem dX15_binary_85 : decode cX15_binary 85 = .ok (.istore 6, 2) := by decide +kernel
theorem dX15_binary_87 : decode cX15_binary 87 = .ok (.iload 6, 2) := by decide +kernel
theorem dX15_binary_89 : decode cX15_binary 89 = .ok (.aload_n 0, 1) := by decide +kernel
theorem dX15_binary_90 : decode cX15_binary 90 = .ok (.getfield 303, 3) := by decide +kernel
theorem dX15_binary_93 : decode cX15_binary 93 = .ok (.if_icmp .ge 74, 3) := by decide +kernel
theorem dX15_binary_96 : decode cX15_binary 96 = .ok (.iload_n 2, 1) := by decide +kernel
theorem dX15_binary_97 : decode cX15_binary 97 = .ok (.bipush 12, 2) := by decide +kernel
theorem dX15_binary_99 : decode cX15_binary 99 = .ok (.if_icmp .ne 12, 3) := by decide +kernel
theorem dX15_binary_102 : decode cX15_binary 102 = .ok (.iload 6, 2) := by decide +kernel
theorem dX15_binary_104 : decode cX15_binary 104 = .ok (.lload 4, 2) := by decide +kernel
theorem dX15_binary_106 : decode cX15_binary 106 = .ok (.l2i, 1) := by decide +kernel
theorem dX15_binary_107 : decode cX15_binary 107 = .ok (.isub, 1) := by decide +kernel
theorem dX15_binary_108 : decode cX15_binary 108 = .ok (.goto 9, 3) := by decide +kernel
theorem dX15_binary_111 : decode cX15_binary 111 = .ok (.iload 6, 2) := by decide +kernel
theorem dX15_binary_113 : decode cX15_binary 113 = .ok (.lload 4, 2) := by decide +kernel
theorem dX15_binary_115 : decode cX15_binary 115 = .ok (.l2i, 1) := by decide +kernel
theorem dX15_binary_116 : decode cX15_binary 116 = .ok (.iadd, 1) := by decide +kernel
theorem dX15_binary_117 : decode cX15_binary 117 = .ok (.istore 7, 2) := by decide +kernel
theorem dX15_binary_119 : decode cX15_binary 119 = .ok (.aload_n 0, 1) := by decide +kernel
theorem dX15_binary_120 : decode cX15_binary 120 = .ok (.getfield 167, 3) := by decide +kernel
theorem dX15_binary_123 : decode cX15_binary 123 = .ok (.iload 6, 2) := by decide +kernel
theorem dX15_binary_125 : decode cX15_binary 125 = .ok (.iload 7, 2) := by decide +kernel
theorem dX15_binary_127 : decode cX15_binary 127 = .ok (.ifCond .lt 31, 3) := by decide +kernel
theorem dX15_binary_130 : decode cX15_binary 130 = .ok (.iload 7, 2) := by decide +kernel
theorem dX15_binary_132 : decode cX15_binary 132 = .ok (.aload_n 0, 1) := by decide +kernel
theorem dX15_binary_133 : decode cX15_binary 133 = .ok (.getfield 303, 3) := by decide +kernel
theorem dX15_binary_136 : decode cX15_binary 136 = .ok (.if_icmp .ge 22, 3) := by decide +kernel
theorem dX15_binary_139 : decode cX15_binary 139 = .ok (.aload_n 0, 1) := by decide +kernel
theorem dX15_binary_140 : decode cX15_binary 140 = .ok (.getfield 161, 3) := by decide +kernel
theorem dX15_binary_143 : decode cX15_binary 143 = .ok (.iload 7, 2) := by decide +kernel
theorem dX15_binary_145 : decode cX15_binary 145 = .ok (.ifCond .ge 7, 3) := by decide +kernel
theorem dX15_binary_148 : decode cX15_binary 148 = .ok (.iconst 0, 1) := by decide +kernel
theorem dX15_binary_149 : decode cX15_binary 149 = .ok (.goto 5, 3) := by decide +kernel
theorem dX15_binary_152 : decode cX15_binary 152 = .ok (.iload 7, 2) := by decide +kernel
theorem dX15_binary_154 : decode cX15_binary 154 = .ok (.iaload, 1) := by decide +kernel
theorem dX15_binary_155 : decode cX15_binary 155 = .ok (.goto 5, 3) := by decide +kernel
theorem dX15_binary_158 : decode cX15_binary 158 = .ok (.bipush (-2), 2) := by decide +kernel
theorem dX15_binary_160 : decode cX15_binary 160 = .ok (.iastore, 1) := by decide +kernel
theorem dX15_binary_161 : decode cX15_binary 161 = .ok (.iinc 6 1, 3) := by decide +kernel
theorem dX15_binary_164 : decode cX15_binary 164 = .ok (.goto (-77), 3) := by decide +kernel
theorem dX15_binary_167 : decode cX15_binary 167 = .ok (.aload_n 0, 1) := by decide +kernel
theorem dX15_binary_168 : decode cX15_binary 168 = .ok (.aload_n 0, 1) := by decide +kernel
theorem dX15_binary_169 : decode cX15_binary 169 = .ok (.getfield 303, 3) := by decide +kernel
theorem dX15_binary_172 : decode cX15_binary 172 = .ok (.invokevirtual 697, 3) := by decide +kernel
theorem dX15_binary_175 : decode cX15_binary 175 = .ok (.return_, 1) := by decide +kernel
theorem dX15_binary_176 : decode cX15_binary 176 = .ok (.aload_n 0, 1) := by decide +kernel
theorem dX15_binary_177 : decode cX15_binary 177 = .ok (.iload_n 3, 1) := by decide +kernel
theorem dX15_binary_178 : decode cX15_binary 178 = .ok (.invokevirtual 722, 3) := by decide +kernel
theorem dX15_binary_181 : decode cX15_binary 181 = .ok (.aload_n 0, 1) := by decide +kernel
theorem dX15_binary_182 : decode cX15_binary 182 = .ok (.iload_n 3, 1) := by decide +kernel
theorem dX15_binary_183 : decode cX15_binary 183 = .ok (.invokevirtual 709, 3) := by decide +kernel
theorem dX15_binary_186 : decode cX15_binary 186 = .ok (.iload_n 3, 1) := by decide +kernel
theorem dX15_binary_187 : decode cX15_binary 187 = .ok (.istore 4, 2) := by decide +kernel
theorem dX15_binary_189 : decode cX15_binary 189 = .ok (.iload_n 2, 1) := by decide +kernel
theorem dX15_binary_190 : decode cX15_binary 190 = .ok (.tableswitch 368 1 16 #[78, 127, 78, 170, 127, 213, 213, 242, 270, 270, 242, 368, 368, 302, 315, 361], 78) := by decide +kernel
theorem dX15_binary_268 : decode cX15_binary 268 = .ok (.iconst 0, 1) := by decide +kernel
theorem dX15_binary_269 : decode cX15_binary 269 = .ok (.istore 5, 2) := by decide +kernel
theorem dX15_binary_271 : decode cX15_binary 271 = .ok (.iload 5, 2) := by decide +kernel
theorem dX15_binary_273 : decode cX15_binary 273 = .ok (.iload_n 3, 1) := by decide +kernel
theorem dX15_binary_274 : decode cX15_binary 274 = .ok (.if_icmp .ge 40, 3) := by decide +kernel
theorem dX15_binary_277 : decode cX15_binary 277 = .ok (.aload_n 0, 1) := by decide +kernel
theorem dX15_binary_278 : decode cX15_binary 278 = .ok (.getfield 167, 3) := by decide +kernel
theorem dX15_binary_281 : decode cX15_binary 281 = .ok (.iload 5, 2) := by decide +kernel
theorem dX15_binary_283 : decode cX15_binary 283 = .ok (.aload_n 0, 1) := by decide +kernel
theorem dX15_binary_284 : decode cX15_binary 284 = .ok (.aload_n 0, 1) := by decide +kernel
theorem dX15_binary_285 : decode cX15_binary 285 = .ok (.getfield 161, 3) := by decide +kernel
theorem dX15_binary_288 : decode cX15_binary 288 = .ok (.iload 5, 2) := by decide +kernel
theorem dX15_binary_290 : decode cX15_binary 290 = .ok (.iaload, 1) := by decide +kernel
theorem dX15_binary_291 : decode cX15_binary 291 = .ok (.iconst 1, 1) := by decide +kernel
theorem dX15_binary_292 : decode cX15_binary 292 = .ok (.ixor, 1) := by decide +kernel
theorem dX15_binary_293 : decode cX15_binary 293 = .ok (.aload_n 0, 1) := by decide +kernel
theorem dX15_binary_294 : decode cX15_binary 294 = .ok (.getfield 164, 3) := by decide +kernel
theorem dX15_binary_297 : decode cX15_binary 297 = .ok (.iload 5, 2) := by decide +kernel
theorem dX15_binary_299 : decode cX15_binary 299 = .ok (.iaload, 1) := by decide +kernel
theorem dX15_binary_300 : decode cX15_binary 300 = .ok (.iconst 1, 1) := by decide +kernel
theorem dX15_binary_301 : decode cX15_binary 301 = .ok (.ixor, 1) := by decide +kernel
theorem dX15_binary_302 : decode cX15_binary 302 = .ok (.invokevirtual 646, 3) := by decide +kernel
theorem dX15_binary_305 : decode cX15_binary 305 = .ok (.iconst 1, 1) := by decide +kernel
theorem dX15_binary_306 : decode cX15_binary 306 = .ok (.ixor, 1) := by decide +kernel
theorem dX15_binary_307 : decode cX15_binary 307 = .ok (.iastore, 1) := by decide +kernel
theorem dX15_binary_308 : decode cX15_binary 308 = .ok (.iinc 5 1, 3) := by decide +kernel
theorem dX15_binary_311 : decode cX15_binary 311 = .ok (.goto (-40), 3) := by decide +kernel
theorem dX15_binary_314 : decode cX15_binary 314 = .ok (.goto 296, 3) := by decide +kernel
theorem dX15_binary_317 : decode cX15_binary 317 = .ok (.iconst 0, 1) := by decide +kernel
theorem dX15_binary_318 : decode cX15_binary 318 = .ok (.istore 5, 2) := by decide +kernel
theorem dX15_binary_320 : decode cX15_binary 320 = .ok (.iload 5, 2) := by decide +kernel
theorem dX15_binary_322 : decode cX15_binary 322 = .ok (.iload_n 3, 1) := by decide +kernel
theorem dX15_binary_323 : decode cX15_binary 323 = .ok (.if_icmp .ge 34, 3) := by decide +kernel
theorem dX15_binary_326 : decode cX15_binary 326 = .ok (.aload_n 0, 1) := by decide +kernel
theorem dX15_binary_327 : decode cX15_binary 327 = .ok (.getfield 167, 3) := by decide +kernel
theorem dX15_binary_330 : decode cX15_binary 330 = .ok (.iload 5, 2) := by decide +kernel
theorem dX15_binary_332 : decode cX15_binary 332 = .ok (.aload_n 0, 1) := by decide +kernel
theorem dX15_binary_333 : decode cX15_binary 333 = .ok (.aload_n 0, 1) := by decide +kernel
theorem dX15_binary_334 : decode cX15_binary 334 = .ok (.getfield 161, 3) := by decide +kernel
theorem dX15_binary_337 : decode cX15_binary 337 = .ok (.iload 5, 2) := by decide +kernel
theorem dX15_binary_339 : decode cX15_binary 339 = .ok (.iaload, 1) := by decide +kernel
theorem dX15_binary_340 : decode cX15_binary 340 = .ok (.aload_n 0, 1) := by decide +kernel
theorem dX15_binary_341 : decode cX15_binary 341 = .ok (.getfield 164, 3) := by decide +kernel
theorem dX15_binary_344 : decode cX15_binary 344 = .ok (.iload 5, 2) := by decide +kernel
theorem dX15_binary_346 : decode cX15_binary 346 = .ok (.iaload, 1) := by decide +kernel
theorem dX15_binary_347 : decode cX15_binary 347 = .ok (.invokevirtual 646, 3) := by decide +kernel
theorem dX15_binary_350 : decode cX15_binary 350 = .ok (.iastore, 1) := by decide +kernel
theorem dX15_binary_351 : decode cX15_binary 351 = .ok (.iinc 5 1, 3) := by decide +kernel
theorem dX15_binary_354 : decode cX15_binary 354 = .ok (.goto (-34), 3) := by decide +kernel
theorem dX15_binary_357 : decode cX15_binary 357 = .ok (.goto 253, 3) := by decide +kernel
theorem dX15_binary_360 : decode cX15_binary 360 = .ok (.iconst 0, 1) := by decide +kernel
theorem dX15_binary_361 : decode cX15_binary 361 = .ok (.istore 5, 2) := by decide +kernel
theorem dX15_binary_363 : decode cX15_binary 363 = .ok (.iload 5, 2) := by decide +kernel
theorem dX15_binary_365 : decode cX15_binary 365 = .ok (.iload_n 3, 1) := by decide +kernel
theorem dX15_binary_366 : decode cX15_binary 366 = .ok (.if_icmp .ge 34, 3) := by decide +kernel
theorem dX15_binary_369 : decode cX15_binary 369 = .ok (.aload_n 0, 1) := by decide +kernel
theorem dX15_binary_370 : decode cX15_binary 370 = .ok (.getfield 167, 3) := by decide +kernel
theorem dX15_binary_373 : decode cX15_binary 373 = .ok (.iload 5, 2) := by decide +kernel
theorem dX15_binary_375 : decode cX15_binary 375 = .ok (.aload_n 0, 1) := by decide +kernel
theorem dX15_binary_376 : decode cX15_binary 376 = .ok (.aload_n 0, 1) := by decide +kernel
theorem dX15_binary_377 : decode cX15_binary 377 = .ok (.getfield 161, 3) := by decide +kernel
theorem dX15_binary_380 : decode cX15_binary 380 = .ok (.iload 5, 2) := by decide +kernel
theorem dX15_binary_382 : decode cX15_binary 382 = .ok (.iaload, 1) := by decide +kernel
theorem dX15_binary_383 : decode cX15_binary 383 = .ok (.aload_n 0, 1) := by decide +kernel
theorem dX15_binary_384 : decode cX15_binary 384 = .ok (.getfield 164, 3) := by decide +kernel
theorem dX15_binary_387 : decode cX15_binary 387 = .ok (.iload 5, 2) := by decide +kernel
theorem dX15_binary_389 : decode cX15_binary 389 = .ok (.iaload, 1) := by decide +kernel
theorem dX15_binary_390 : decode cX15_binary 390 = .ok (.invokevirtual 642, 3) := by decide +kernel
theorem dX15_binary_393 : decode cX15_binary 393 = .ok (.iastore, 1) := by decide +kernel
theorem dX15_binary_394 : decode cX15_binary 394 = .ok (.iinc 5 1, 3) := by decide +kernel
theorem dX15_binary_397 : decode cX15_binary 397 = .ok (.goto (-34), 3) := by decide +kernel
theorem dX15_binary_400 : decode cX15_binary 400 = .ok (.goto 210, 3) := by decide +kernel
theorem dX15_binary_403 : decode cX15_binary 403 = .ok (.aload_n 0, 1) := by decide +kernel
theorem dX15_binary_404 : decode cX15_binary 404 = .ok (.getfield 167, 3) := by decide +kernel
theorem dX15_binary_407 : decode cX15_binary 407 = .ok (.iconst 0, 1) := by decide +kernel
theorem dX15_binary_408 : decode cX15_binary 408 = .ok (.aload_n 0, 1) := by decide +kernel
theorem dX15_binary_409 : decode cX15_binary 409 = .ok (.iload_n 3, 1) := by decide +kernel
theorem dX15_binary_410 : decode cX15_binary 410 = .ok (.invokevirtual 725, 3) := by decide +kernel
theorem dX15_binary_413 : decode cX15_binary 413 = .ok (.iload_n 2, 1) := by decide +kernel
theorem dX15_binary_414 : decode cX15_binary 414 = .ok (.bipush 7, 2) := by decide +kernel
theorem dX15_binary_416 : decode cX15_binary 416 = .ok (.if_icmp .ne 7, 3) := by decide +kernel
theorem dX15_binary_419 : decode cX15_binary 419 = .ok (.iconst 1, 1) := by decide +kernel
theorem dX15_binary_420 : decode cX15_binary 420 = .ok (.goto 4, 3) := by decide +kernel
theorem dX15_binary_423 : decode cX15_binary 423 = .ok (.iconst 0, 1) := by decide +kernel
theorem dX15_binary_424 : decode cX15_binary 424 = .ok (.ixor, 1) := by decide +kernel
theorem dX15_binary_425 : decode cX15_binary 425 = .ok (.iastore, 1) := by decide +kernel
theorem dX15_binary_426 : decode cX15_binary 426 = .ok (.iconst 1, 1) := by decide +kernel
theorem dX15_binary_427 : decode cX15_binary 427 = .ok (.istore 4, 2) := by decide +kernel
theorem dX15_binary_429 : decode cX15_binary 429 = .ok (.goto 181, 3) := by decide +kernel
theorem dX15_binary_432 : decode cX15_binary 432 = .ok (.aload_n 0, 1) := by decide +kernel
theorem dX15_binary_433 : decode cX15_binary 433 = .ok (.getfield 167, 3) := by decide +kernel
theorem dX15_binary_436 : decode cX15_binary 436 = .ok (.iconst 0, 1) := by decide +kernel
theorem dX15_binary_437 : decode cX15_binary 437 = .ok (.aload_n 0, 1) := by decide +kernel
theorem dX15_binary_438 : decode cX15_binary 438 = .ok (.invokevirtual 734, 3) := by decide +kernel
theorem dX15_binary_441 : decode cX15_binary 441 = .ok (.iload_n 2, 1) := by decide +kernel
theorem dX15_binary_442 : decode cX15_binary 442 = .ok (.bipush 11, 2) := by decide +kernel
theorem dX15_binary_444 : decode cX15_binary 444 = .ok (.if_icmp .ne 7, 3) := by decide +kernel
theorem dX15_binary_447 : decode cX15_binary 447 = .ok (.iconst 1, 1) := by decide +kernel
theorem dX15_binary_448 : decode cX15_binary 448 = .ok (.goto 4, 3) := by decide +kernel
theorem dX15_binary_451 : decode cX15_binary 451 = .ok (.iconst 0, 1) := by decide +kernel
theorem dX15_binary_452 : decode cX15_binary 452 = .ok (.ixor, 1) := by decide +kernel
theorem dX15_binary_453 : decode cX15_binary 453 = .ok (.iastore, 1) := by decide +kernel
theorem dX15_binary_454 : decode cX15_binary 454 = .ok (.iconst 1, 1) := by decide +kernel
theorem dX15_binary_455 : decode cX15_binary 455 = .ok (.istore 4, 2) := by decide +kernel
theorem dX15_binary_457 : decode cX15_binary 457 = .ok (.goto 153, 3) := by decide +kernel
theorem dX15_binary_460 : decode cX15_binary 460 = .ok (.aload_n 0, 1) := by decide +kernel
theorem dX15_binary_461 : decode cX15_binary 461 = .ok (.invokevirtual 737, 3) := by decide +kernel
theorem dX15_binary_464 : decode cX15_binary 464 = .ok (.aload_n 0, 1) := by decide +kernel
theorem dX15_binary_465 : decode cX15_binary 465 = .ok (.getfield 167, 3) := by decide +kernel
theorem dX15_binary_468 : decode cX15_binary 468 = .ok (.iconst 0, 1) := by decide +kernel
theorem dX15_binary_469 : decode cX15_binary 469 = .ok (.aload_n 0, 1) := by decide +kernel
theorem dX15_binary_470 : decode cX15_binary 470 = .ok (.invokevirtual 734, 3) := by decide +kernel
theorem dX15_binary_473 : decode cX15_binary 473 = .ok (.iload_n 2, 1) := by decide +kernel
theorem dX15_binary_474 : decode cX15_binary 474 = .ok (.bipush 9, 2) := by decide +kernel
theorem dX15_binary_476 : decode cX15_binary 476 = .ok (.if_icmp .ne 7, 3) := by decide +kernel
theorem dX15_binary_479 : decode cX15_binary 479 = .ok (.iconst 1, 1) := by decide +kernel
theorem dX15_binary_480 : decode cX15_binary 480 = .ok (.goto 4, 3) := by decide +kernel
theorem dX15_binary_483 : decode cX15_binary 483 = .ok (.iconst 0, 1) := by decide +kernel
theorem dX15_binary_484 : decode cX15_binary 484 = .ok (.ixor, 1) := by decide +kernel
theorem dX15_binary_485 : decode cX15_binary 485 = .ok (.iastore, 1) := by decide +kernel
theorem dX15_binary_486 : decode cX15_binary 486 = .ok (.iconst 1, 1) := by decide +kernel
theorem dX15_binary_487 : decode cX15_binary 487 = .ok (.istore 4, 2) := by decide +kernel
theorem dX15_binary_489 : decode cX15_binary 489 = .ok (.goto 121, 3) := by decide +kernel
theorem dX15_binary_492 : decode cX15_binary 492 = .ok (.aload_n 0, 1) := by decide +kernel
theorem dX15_binary_493 : decode cX15_binary 493 = .ok (.aload_n 0, 1) := by decide +kernel
theorem dX15_binary_494 : decode cX15_binary 494 = .ok (.getfield 303, 3) := by decide +kernel
theorem dX15_binary_497 : decode cX15_binary 497 = .ok (.bipush (-2), 2) := by decide +kernel
theorem dX15_binary_499 : decode cX15_binary 499 = .ok (.invokevirtual 652, 3) := by decide +kernel
theorem dX15_binary_502 : decode cX15_binary 502 = .ok (.goto 108, 3) := by decide +kernel
theorem dX15_binary_505 : decode cX15_binary 505 = .ok (.iconst 0, 1) := by decide +kernel
theorem dX15_binary_506 : decode cX15_binary 506 = .ok (.istore 5, 2) := by decide +kernel
theorem dX15_binary_508 : decode cX15_binary 508 = .ok (.iload 5, 2) := by decide +kernel
theorem dX15_binary_510 : decode cX15_binary 510 = .ok (.aload_n 0, 1) := by decide +kernel
theorem dX15_binary_511 : decode cX15_binary 511 = .ok (.getfield 303, 3) := by decide +kernel
theorem dX15_binary_514 : decode cX15_binary 514 = .ok (.if_icmp .ge 25, 3) := by decide +kernel
theorem dX15_binary_517 : decode cX15_binary 517 = .ok (.aload_n 0, 1) := by decide +kernel
theorem dX15_binary_518 : decode cX15_binary 518 = .ok (.getfield 164, 3) := by decide +kernel
theorem dX15_binary_521 : decode cX15_binary 521 = .ok (.iload 5, 2) := by decide +kernel
theorem dX15_binary_523 : decode cX15_binary 523 = .ok (.aload_n 0, 1) := by decide +kernel
theorem dX15_binary_524 : decode cX15_binary 524 = .ok (.getfield 164, 3) := by decide +kernel
theorem dX15_binary_527 : decode cX15_binary 527 = .ok (.iload 5, 2) := by decide +kernel
theorem dX15_binary_529 : decode cX15_binary 529 = .ok (.iaload, 1) := by decide +kernel
theorem dX15_binary_530 : decode cX15_binary 530 = .ok (.iconst 1, 1) := by decide +kernel
theorem dX15_binary_531 : decode cX15_binary 531 = .ok (.ixor, 1) := by decide +kernel
theorem dX15_binary_532 : decode cX15_binary 532 = .ok (.iastore, 1) := by decide +kernel
theorem dX15_binary_533 : decode cX15_binary 533 = .ok (.iinc 5 1, 3) := by decide +kernel
theorem dX15_binary_536 : decode cX15_binary 536 = .ok (.goto (-28), 3) := by decide +kernel
theorem dX15_binary_539 : decode cX15_binary 539 = .ok (.aload_n 0, 1) := by decide +kernel
theorem dX15_binary_540 : decode cX15_binary 540 = .ok (.aload_n 0, 1) := by decide +kernel
theorem dX15_binary_541 : decode cX15_binary 541 = .ok (.getfield 303, 3) := by decide +kernel
theorem dX15_binary_544 : decode cX15_binary 544 = .ok (.iconst (-1), 1) := by decide +kernel
theorem dX15_binary_545 : decode cX15_binary 545 = .ok (.invokevirtual 652, 3) := by decide +kernel
theorem dX15_binary_548 : decode cX15_binary 548 = .ok (.goto 62, 3) := by decide +kernel
theorem dX15_binary_551 : decode cX15_binary 551 = .ok (.aload_n 0, 1) := by decide +kernel
theorem dX15_binary_552 : decode cX15_binary 552 = .ok (.invokevirtual 740, 3) := by decide +kernel
theorem dX15_binary_555 : decode cX15_binary 555 = .ok (.goto 55, 3) := by decide +kernel
theorem dX15_binary_558 : decode cX15_binary 558 = .ok (.aload_n 0, 1) := by decide +kernel
theorem dX15_binary_559 : decode cX15_binary 559 = .ok (.invokevirtual 743, 3) := by decide +kernel
theorem dX15_binary_562 : decode cX15_binary 562 = .ok (.iconst 0, 1) := by decide +kernel
theorem dX15_binary_563 : decode cX15_binary 563 = .ok (.istore 5, 2) := by decide +kernel
theorem dX15_binary_565 : decode cX15_binary 565 = .ok (.iload 5, 2) := by decide +kernel
theorem dX15_binary_567 : decode cX15_binary 567 = .ok (.aload_n 0, 1) := by decide +kernel
theorem dX15_binary_568 : decode cX15_binary 568 = .ok (.getfield 303, 3) := by decide +kernel
theorem dX15_binary_571 : decode cX15_binary 571 = .ok (.if_icmp .ge 39, 3) := by decide +kernel
theorem dX15_binary_574 : decode cX15_binary 574 = .ok (.aload_n 0, 1) := by decide +kernel
theorem dX15_binary_575 : decode cX15_binary 575 = .ok (.getfield 167, 3) := by decide +kernel
theorem dX15_binary_578 : decode cX15_binary 578 = .ok (.iload 5, 2) := by decide +kernel
theorem dX15_binary_580 : decode cX15_binary 580 = .ok (.iload_n 2, 1) := by decide +kernel
theorem dX15_binary_581 : decode cX15_binary 581 = .ok (.bipush 17, 2) := by decide +kernel
theorem dX15_binary_583 : decode cX15_binary 583 = .ok (.if_icmp .ne 13, 3) := by decide +kernel
theorem dX15_binary_586 : decode cX15_binary 586 = .ok (.aload_n 0, 1) := by decide +kernel
theorem dX15_binary_587 : decode cX15_binary 587 = .ok (.getfield 182, 3) := by decide +kernel
theorem dX15_binary_590 : decode cX15_binary 590 = .ok (.iload 5, 2) := by decide +kernel
theorem dX15_binary_592 : decode cX15_binary 592 = .ok (.iaload, 1) := by decide +kernel
theorem dX15_binary_593 : decode cX15_binary 593 = .ok (.goto 10, 3) := by decide +kernel
theorem dX15_binary_596 : decode cX15_binary 596 = .ok (.aload_n 0, 1) := by decide +kernel
theorem dX15_binary_597 : decode cX15_binary 597 = .ok (.getfield 179, 3) := by decide +kernel
theorem dX15_binary_600 : decode cX15_binary 600 = .ok (.iload 5, 2) := by decide +kernel
theorem dX15_binary_602 : decode cX15_binary 602 = .ok (.iaload, 1) := by decide +kernel
theorem dX15_binary_603 : decode cX15_binary 603 = .ok (.iastore, 1) := by decide +kernel
theorem dX15_binary_604 : decode cX15_binary 604 = .ok (.iinc 5 1, 3) := by decide +kernel
theorem dX15_binary_607 : decode cX15_binary 607 = .ok (.goto (-42), 3) := by decide +kernel
theorem dX15_binary_610 : decode cX15_binary 610 = .ok (.aload_n 0, 1) := by decide +kernel
theorem dX15_binary_611 : decode cX15_binary 611 = .ok (.iload 4, 2) := by decide +kernel
theorem dX15_binary_613 : decode cX15_binary 613 = .ok (.invokevirtual 697, 3) := by decide +kernel
theorem dX15_binary_616 : decode cX15_binary 616 = .ok (.return_, 1) := by decide +kernel
theorem dX15_popY_0 : decode cX15_popY 0 = .ok (.aload_n 0, 1) := by decide +kernel
theorem dX15_popY_1 : decode cX15_popY 1 = .ok (.dup, 1) := by decide +kernel
theorem dX15_popY_2 : decode cX15_popY 2 = .ok (.getfield 649, 3) := by decide +kernel
theorem dX15_popY_5 : decode cX15_popY 5 = .ok (.iconst 1, 1) := by decide +kernel
theorem dX15_popY_6 : decode cX15_popY 6 = .ok (.isub, 1) := by decide +kernel
theorem dX15_popY_7 : decode cX15_popY 7 = .ok (.putfield 649, 3) := by decide +kernel
theorem dX15_popY_10 : decode cX15_popY 10 = .ok (.iconst 0, 1) := by decide +kernel
theorem dX15_popY_11 : decode cX15_popY 11 = .ok (.istore_n 2, 1) := by decide +kernel
theorem dX15_popY_12 : decode cX15_popY 12 = .ok (.iload_n 2, 1) := by decide +kernel
theorem dX15_popY_13 : decode cX15_popY 13 = .ok (.iload_n 1, 1) := by decide +kernel
theorem dX15_popY_14 : decode cX15_popY 14 = .ok (.if_icmp .ge 29, 3) := by decide +kernel
theorem dX15_popY_17 : decode cX15_popY 17 = .ok (.aload_n 0, 1) := by decide +kernel
theorem dX15_popY_18 : decode cX15_popY 18 = .ok (.getfield 164, 3) := by decide +kernel
theorem dX15_popY_21 : decode cX15_popY 21 = .ok (.iload_n 2, 1) := by decide +kernel
theorem dX15_popY_22 : decode cX15_popY 22 = .ok (.aload_n 0, 1) := by decide +kernel
theorem dX15_popY_23 : decode cX15_popY 23 = .ok (.getfield 158, 3) := by decide +kernel
theorem dX15_popY_26 : decode cX15_popY 26 = .ok (.bipush 32, 2) := by decide +kernel
theorem dX15_popY_28 : decode cX15_popY 28 = .ok (.aload_n 0, 1) := by decide +kernel
theorem dX15_popY_29 : decode cX15_popY 29 = .ok (.getfield 649, 3) := by decide +kernel
theorem dX15_popY_32 : decode cX15_popY 32 = .ok (.imul, 1) := by decide +kernel
theorem dX15_popY_33 : decode cX15_popY 33 = .ok (.iload_n 2, 1) := by decide +kernel
theorem dX15_popY_34 : decode cX15_popY 34 = .ok (.iadd, 1) := by decide +kernel
theorem dX15_popY_35 : decode cX15_popY 35 = .ok (.iaload, 1) := by decide +kernel
theorem dX15_popY_36 : decode cX15_popY 36 = .ok (.iastore, 1) := by decide +kernel
theorem dX15_popY_37 : decode cX15_popY 37 = .ok (.iinc 2 1, 3) := by decide +kernel
theorem dX15_popY_40 : decode cX15_popY 40 = .ok (.goto (-28), 3) := by decide +kernel
theorem dX15_popY_43 : decode cX15_popY 43 = .ok (.return_, 1) := by decide +kernel
theorem dX15_less_0 : decode cX15_less 0 = .ok (.aload_n 0, 1) := by decide +kernel
theorem dX15_less_1 : decode cX15_less 1 = .ok (.getfield 161, 3) := by decide +kernel
theorem dX15_less_4 : decode cX15_less 4 = .ok (.aload_n 0, 1) := by decide +kernel
theorem dX15_less_5 : decode cX15_less 5 = .ok (.getfield 303, 3) := by decide +kernel
theorem dX15_less_8 : decode cX15_less 8 = .ok (.iconst 1, 1) := by decide +kernel
theorem dX15_less_9 : decode cX15_less 9 = .ok (.isub, 1) := by decide +kernel
theorem dX15_less_10 : decode cX15_less 10 = .ok (.aload_n 0, 1) := by decide +kernel
theorem dX15_less_11 : decode cX15_less 11 = .ok (.getfield 161, 3) := by decide +kernel
theorem dX15_less_14 : decode cX15_less 14 = .ok (.aload_n 0, 1) := by decide +kernel
theorem dX15_less_15 : decode cX15_less 15 = .ok (.getfield 303, 3) := by decide +kernel
theorem dX15_less_18 : decode cX15_less 18 = .ok (.iconst 1, 1) := by decide +kernel
theorem dX15_less_19 : decode cX15_less 19 = .ok (.isub, 1) := by decide +kernel
theorem dX15_less_20 : decode cX15_less 20 = .ok (.iaload, 1) := by decide +kernel
theorem dX15_less_21 : decode cX15_less 21 = .ok (.iconst 1, 1) := by decide +kernel
theorem dX15_less_22 : decode cX15_less 22 = .ok (.ixor, 1) := by decide +kernel
theorem dX15_less_23 : decode cX15_less 23 = .ok (.iastore, 1) := by decide +kernel
theorem dX15_less_24 : decode cX15_less 24 = .ok (.aload_n 0, 1) := by decide +kernel
theorem dX15_less_25 : decode cX15_less 25 = .ok (.getfield 164, 3) := by decide +kernel
theorem dX15_less_28 : decode cX15_less 28 = .ok (.aload_n 0, 1) := by decide +kernel
theorem dX15_less_29 : decode cX15_less 29 = .ok (.getfield 303, 3) := by decide +kernel
theorem dX15_less_32 : decode cX15_less 32 = .ok (.iconst 1, 1) := by decide +kernel
theorem dX15_less_33 : decode cX15_less 33 = .ok (.isub, 1) := by decide +kernel
theorem dX15_less_34 : decode cX15_less 34 = .ok (.aload_n 0, 1) := by decide +kernel
theorem dX15_less_35 : decode cX15_less 35 = .ok (.getfield 164, 3) := by decide +kernel
theorem dX15_less_38 : decode cX15_less 38 = .ok (.aload_n 0, 1) := by decide +kernel
theorem dX15_less_39 : decode cX15_less 39 = .ok (.getfield 303, 3) := by decide +kernel
theorem dX15_less_42 : decode cX15_less 42 = .ok (.iconst 1, 1) := by decide +kernel
theorem dX15_less_43 : decode cX15_less 43 = .ok (.isub, 1) := by decide +kernel
theorem dX15_less_44 : decode cX15_less 44 = .ok (.iaload, 1) := by decide +kernel
theorem dX15_less_45 : decode cX15_less 45 = .ok (.iconst 1, 1) := by decide +kernel
theorem dX15_less_46 : decode cX15_less 46 = .ok (.ixor, 1) := by decide +kernel
theorem dX15_less_47 : decode cX15_less 47 = .ok (.iastore, 1) := by decide +kernel
theorem dX15_less_48 : decode cX15_less 48 = .ok (.iconst (-1), 1) := by decide +kernel
theorem dX15_less_49 : decode cX15_less 49 = .ok (.istore_n 1, 1) := by decide +kernel
theorem dX15_less_50 : decode cX15_less 50 = .ok (.iconst 0, 1) := by decide +kernel
theorem dX15_less_51 : decode cX15_less 51 = .ok (.istore_n 2, 1) := by decide +kernel
theorem dX15_less_52 : decode cX15_less 52 = .ok (.iload_n 2, 1) := by decide +kernel
theorem dX15_less_53 : decode cX15_less 53 = .ok (.aload_n 0, 1) := by decide +kernel
theorem dX15_less_54 : decode cX15_less 54 = .ok (.getfield 303, 3) := by decide +kernel
theorem dX15_less_57 : decode cX15_less 57 = .ok (.if_icmp .ge 49, 3) := by decide +kernel
theorem dX15_less_60 : decode cX15_less 60 = .ok (.aload_n 0, 1) := by decide +kernel
theorem dX15_less_61 : decode cX15_less 61 = .ok (.aload_n 0, 1) := by decide +kernel
theorem dX15_less_62 : decode cX15_less 62 = .ok (.getfield 164, 3) := by decide +kernel
theorem dX15_less_65 : decode cX15_less 65 = .ok (.iload_n 2, 1) := by decide +kernel
theorem dX15_less_66 : decode cX15_less 66 = .ok (.iaload, 1) := by decide +kernel
theorem dX15_less_67 : decode cX15_less 67 = .ok (.iconst 1, 1) := by decide +kernel
theorem dX15_less_68 : decode cX15_less 68 = .ok (.ixor, 1) := by decide +kernel
theorem dX15_less_69 : decode cX15_less 69 = .ok (.iload_n 1, 1) := by decide +kernel
theorem dX15_less_70 : decode cX15_less 70 = .ok (.invokevirtual 642, 3) := by decide +kernel
theorem dX15_less_73 : decode cX15_less 73 = .ok (.istore_n 3, 1) := by decide +kernel
theorem dX15_less_74 : decode cX15_less 74 = .ok (.aload_n 0, 1) := by decide +kernel
theorem dX15_less_75 : decode cX15_less 75 = .ok (.aload_n 0, 1) := by decide +kernel
theorem dX15_less_76 : decode cX15_less 76 = .ok (.getfield 161, 3) := by decide +kernel
theorem dX15_less_79 : decode cX15_less 79 = .ok (.iload_n 2, 1) := by decide +kernel
theorem dX15_less_80 : decode cX15_less 80 = .ok (.iaload, 1) := by decide +kernel
theorem dX15_less_81 : decode cX15_less 81 = .ok (.iload_n 1, 1) := by decide +kernel
theorem dX15_less_82 : decode cX15_less 82 = .ok (.invokevirtual 642, 3) := by decide +kernel
theorem dX15_less_85 : decode cX15_less 85 = .ok (.istore 4, 2) := by decide +kernel
theorem dX15_less_87 : decode cX15_less 87 = .ok (.aload_n 0, 1) := by decide +kernel
theorem dX15_less_88 : decode cX15_less 88 = .ok (.iload_n 1, 1) := by decide +kernel
theorem dX15_less_89 : decode cX15_less 89 = .ok (.aload_n 0, 1) := by decide +kernel
theorem dX15_less_90 : decode cX15_less 90 = .ok (.iload 4, 2) := by decide +kernel
theorem dX15_less_92 : decode cX15_less 92 = .ok (.iload_n 3, 1) := by decide +kernel
theorem dX15_less_93 : decode cX15_less 93 = .ok (.invokevirtual 646, 3) := by decide +kernel
theorem dX15_less_96 : decode cX15_less 96 = .ok (.invokevirtual 642, 3) := by decide +kernel
theorem dX15_less_99 : decode cX15_less 99 = .ok (.istore_n 1, 1) := by decide +kernel
theorem dX15_less_100 : decode cX15_less 100 = .ok (.iinc 2 1, 3) := by decide +kernel
theorem dX15_less_103 : decode cX15_less 103 = .ok (.goto (-51), 3) := by decide +kernel
theorem dX15_less_106 : decode cX15_less 106 = .ok (.iload_n 1, 1) := by decide +kernel
theorem dX15_less_107 : decode cX15_less 107 = .ok (.iconst 1, 1) := by decide +kernel
theorem dX15_less_108 : decode cX15_less 108 = .ok (.ixor, 1) := by decide +kernel
theorem dX15_less_109 : decode cX15_less 109 = .ok (.ireturn, 1) := by decide +kernel
theorem dX15_swap_0 : decode cX15_swap 0 = .ok (.iconst 0, 1) := by decide +kernel
theorem dX15_swap_1 : decode cX15_swap 1 = .ok (.istore_n 1, 1) := by decide +kernel
theorem dX15_swap_2 : decode cX15_swap 2 = .ok (.iload_n 1, 1) := by decide +kernel
theorem dX15_swap_3 : decode cX15_swap 3 = .ok (.aload_n 0, 1) := by decide +kernel
theorem dX15_swap_4 : decode cX15_swap 4 = .ok (.getfield 303, 3) := by decide +kernel
theorem dX15_swap_7 : decode cX15_swap 7 = .ok (.if_icmp .ge 35, 3) := by decide +kernel
theorem dX15_swap_10 : decode cX15_swap 10 = .ok (.aload_n 0, 1) := by decide +kernel
theorem dX15_swap_11 : decode cX15_swap 11 = .ok (.getfield 161, 3) := by decide +kernel
theorem dX15_swap_14 : decode cX15_swap 14 = .ok (.iload_n 1, 1) := by decide +kernel
theorem dX15_swap_15 : decode cX15_swap 15 = .ok (.iaload, 1) := by decide +kernel
theorem dX15_swap_16 : decode cX15_swap 16 = .ok (.istore_n 2, 1) := by decide +kernel
theorem dX15_swap_17 : decode cX15_swap 17 = .ok (.aload_n 0, 1) := by decide +kernel
theorem dX15_swap_18 : decode cX15_swap 18 = .ok (.getfield 161, 3) := by decide +kernel
theorem dX15_swap_21 : decode cX15_swap 21 = .ok (.iload_n 1, 1) := by decide +kernel
theorem dX15_swap_22 : decode cX15_swap 22 = .ok (.aload_n 0, 1) := by decide +kernel
theorem dX15_swap_23 : decode cX15_swap 23 = .ok (.getfield 164, 3) := by decide +kernel
theorem dX15_swap_26 : decode cX15_swap 26 = .ok (.iload_n 1, 1) := by decide +kernel
theorem dX15_swap_27 : decode cX15_swap 27 = .ok (.iaload, 1) := by decide +kernel
theorem dX15_swap_28 : decode cX15_swap 28 = .ok (.iastore, 1) := by decide +kernel
theorem dX15_swap_29 : decode cX15_swap 29 = .ok (.aload_n 0, 1) := by decide +kernel
theorem dX15_swap_30 : decode cX15_swap 30 = .ok (.getfield 164, 3) := by decide +kernel
theorem dX15_swap_33 : decode cX15_swap 33 = .ok (.iload_n 1, 1) := by decide +kernel
theorem dX15_swap_34 : decode cX15_swap 34 = .ok (.iload_n 2, 1) := by decide +kernel
theorem dX15_swap_35 : decode cX15_swap 35 = .ok (.iastore, 1) := by decide +kernel
theorem dX15_swap_36 : decode cX15_swap 36 = .ok (.iinc 1 1, 3) := by decide +kernel
theorem dX15_swap_39 : decode cX15_swap 39 = .ok (.goto (-37), 3) := by decide +kernel
theorem dX15_swap_42 : decode cX15_swap 42 = .ok (.return_, 1) := by decide +kernel
theorem dX15_multiply_0 : decode cX15_multiply 0 = .ok (.iconst 0, 1) := by decide +kernel
theorem dX15_multiply_1 : decode cX15_multiply 1 = .ok (.istore_n 1, 1) := by decide +kernel
theorem dX15_multiply_2 : decode cX15_multiply 2 = .ok (.iload_n 1, 1) := by decide +kernel
theorem dX15_multiply_3 : decode cX15_multiply 3 = .ok (.aload_n 0, 1) := by decide +kernel
theorem dX15_multiply_4 : decode cX15_multiply 4 = .ok (.getfield 303, 3) := by decide +kernel
theorem dX15_multiply_7 : decode cX15_multiply 7 = .ok (.if_icmp .ge 33, 3) := by decide +kernel
theorem dX15_multiply_10 : decode cX15_multiply 10 = .ok (.aload_n 0, 1) := by decide +kernel
theorem dX15_multiply_11 : decode cX15_multiply 11 = .ok (.getfield 173, 3) := by decide +kernel
theorem dX15_multiply_14 : decode cX15_multiply 14 = .ok (.iload_n 1, 1) := by decide +kernel
theorem dX15_multiply_15 : decode cX15_multiply 15 = .ok (.aload_n 0, 1) := by decide +kernel
theorem dX15_multiply_16 : decode cX15_multiply 16 = .ok (.getfield 161, 3) := by decide +kernel
theorem dX15_multiply_19 : decode cX15_multiply 19 = .ok (.iload_n 1, 1) := by decide +kernel
theorem dX15_multiply_20 : decode cX15_multiply 20 = .ok (.iaload, 1) := by decide +kernel
theorem dX15_multiply_21 : decode cX15_multiply 21 = .ok (.iastore, 1) := by decide +kernel
theorem dX15_multiply_22 : decode cX15_multiply 22 = .ok (.aload_n 0, 1) := by decide +kernel
theorem dX15_multiply_23 : decode cX15_multiply 23 = .ok (.getfield 170, 3) := by decide +kernel
theorem dX15_multiply_26 : decode cX15_multiply 26 = .ok (.iload_n 1, 1) := by decide +kernel
theorem dX15_multiply_27 : decode cX15_multiply 27 = .ok (.aload_n 0, 1) := by decide +kernel
theorem dX15_multiply_28 : decode cX15_multiply 28 = .ok (.getfield 164, 3) := by decide +kernel
theorem dX15_multiply_31 : decode cX15_multiply 31 = .ok (.iload_n 1, 1) := by decide +kernel
theorem dX15_multiply_32 : decode cX15_multiply 32 = .ok (.iaload, 1) := by decide +kernel
theorem dX15_multiply_33 : decode cX15_multiply 33 = .ok (.iastore, 1) := by decide +kernel
theorem dX15_multiply_34 : decode cX15_multiply 34 = .ok (.iinc 1 1, 3) := by decide +kernel
theorem dX15_multiply_37 : decode cX15_multiply 37 = .ok (.goto (-35), 3) := by decide +kernel
theorem dX15_multiply_40 : decode cX15_multiply 40 = .ok (.iconst 0, 1) := by decide +kernel
theorem dX15_multiply_41 : decode cX15_multiply 41 = .ok (.istore_n 1, 1) := by decide +kernel
theorem dX15_multiply_42 : decode cX15_multiply 42 = .ok (.iload_n 1, 1) := by decide +kernel
theorem dX15_multiply_43 : decode cX15_multiply 43 = .ok (.aload_n 0, 1) := by decide +kernel
theorem dX15_multiply_44 : decode cX15_multiply 44 = .ok (.getfield 303, 3) := by decide +kernel
theorem dX15_multiply_47 : decode cX15_multiply 47 = .ok (.if_icmp .ge 31, 3) := by decide +kernel
theorem dX15_multiply_50 : decode cX15_multiply 50 = .ok (.aload_n 0, 1) := by decide +kernel
theorem dX15_multiply_51 : decode cX15_multiply 51 = .ok (.getfield 176, 3) := by decide +kernel
theorem dX15_multiply_54 : decode cX15_multiply 54 = .ok (.iload_n 1, 1) := by decide +kernel
theorem dX15_multiply_55 : decode cX15_multiply 55 = .ok (.aload_n 0, 1) := by decide +kernel
theorem dX15_multiply_56 : decode cX15_multiply 56 = .ok (.aload_n 0, 1) := by decide +kernel
theorem dX15_multiply_57 : decode cX15_multiply 57 = .ok (.getfield 173, 3) := by decide +kernel
theorem dX15_multiply_60 : decode cX15_multiply 60 = .ok (.iload_n 1, 1) := by decide +kernel
theorem dX15_multiply_61 : decode cX15_multiply 61 = .ok (.iaload, 1) := by decide +kernel
theorem dX15_multiply_62 : decode cX15_multiply 62 = .ok (.aload_n 0, 1) := by decide +kernel
theorem dX15_multiply_63 : decode cX15_multiply 63 = .ok (.getfield 170, 3) := by decide +kernel
theorem dX15_multiply_66 : decode cX15_multiply 66 = .ok (.iconst 0, 1) := by decide +kernel
theorem dX15_multiply_67 : decode cX15_multiply 67 = .ok (.iaload, 1) := by decide +kernel
theorem dX15_multiply_68 : decode cX15_multiply 68 = .ok (.invokevirtual 646, 3) := by decide +kernel
theorem dX15_multiply_71 : decode cX15_multiply 71 = .ok (.iastore, 1) := by decide +kernel
theorem dX15_multiply_72 : decode cX15_multiply 72 = .ok (.iinc 1 1, 3) := by decide +kernel
theorem dX15_multiply_75 : decode cX15_multiply 75 = .ok (.goto (-33), 3) := by decide +kernel
theorem dX15_multiply_78 : decode cX15_multiply 78 = .ok (.iconst 1, 1) := by decide +kernel
theorem dX15_multiply_79 : decode cX15_multiply 79 = .ok (.istore_n 1, 1) := by decide +kernel
theorem dX15_multiply_80 : decode cX15_multiply 80 = .ok (.iload_n 1, 1) := by decide +kernel
theorem dX15_multiply_81 : decode cX15_multiply 81 = .ok (.aload_n 0, 1) := by decide +kernel
theorem dX15_multiply_82 : decode cX15_multiply 82 = .ok (.getfield 303, 3) := by decide +kernel
theorem dX15_multiply_85 : decode cX15_multiply 85 = .ok (.if_icmp .ge 107, 3) := by decide +kernel
theorem dX15_multiply_88 : decode cX15_multiply 88 = .ok (.iconst 0, 1) := by decide +kernel
theorem dX15_multiply_89 : decode cX15_multiply 89 = .ok (.istore_n 2, 1) := by decide +kernel
theorem dX15_multiply_90 : decode cX15_multiply 90 = .ok (.iload_n 2, 1) := by decide +kernel
theorem dX15_multiply_91 : decode cX15_multiply 91 = .ok (.aload_n 0, 1) := by decide +kernel
theorem dX15_multiply_92 : decode cX15_multiply 92 = .ok (.getfield 303, 3) := by decide +kernel
theorem dX15_multiply_95 : decode cX15_multiply 95 = .ok (.iload_n 1, 1) := by decide +kernel
theorem dX15_multiply_96 : decode cX15_multiply 96 = .ok (.isub, 1) := by decide +kernel
theorem dX15_multiply_97 : decode cX15_multiply 97 = .ok (.if_icmp .ge 45, 3) := by decide +kernel
theorem dX15_multiply_100 : decode cX15_multiply 100 = .ok (.aload_n 0, 1) := by decide +kernel
theorem dX15_multiply_101 : decode cX15_multiply 101 = .ok (.getfield 164, 3) := by decide +kernel
theorem dX15_multiply_104 : decode cX15_multiply 104 = .ok (.iload_n 2, 1) := by decide +kernel
theorem dX15_multiply_105 : decode cX15_multiply 105 = .ok (.aload_n 0, 1) := by decide +kernel
theorem dX15_multiply_106 : decode cX15_multiply 106 = .ok (.aload_n 0, 1) := by decide +kernel
theorem dX15_multiply_107 : decode cX15_multiply 107 = .ok (.getfield 173, 3) := by decide +kernel
theorem dX15_multiply_110 : decode cX15_multiply 110 = .ok (.iload_n 2, 1) := by decide +kernel
theorem dX15_multiply_111 : decode cX15_multiply 111 = .ok (.iaload, 1) := by decide +kernel
theorem dX15_multiply_112 : decode cX15_multiply 112 = .ok (.aload_n 0, 1) := by decide +kernel
theorem dX15_multiply_113 : decode cX15_multiply 113 = .ok (.getfield 170, 3) := by decide +kernel
theorem dX15_multiply_116 : decode cX15_multiply 116 = .ok (.iload_n 1, 1) := by decide +kernel
theorem dX15_multiply_117 : decode cX15_multiply 117 = .ok (.iaload, 1) := by decide +kernel
theorem dX15_multiply_118 : decode cX15_multiply 118 = .ok (.invokevirtual 646, 3) := by decide +kernel
theorem dX15_multiply_121 : decode cX15_multiply 121 = .ok (.iastore, 1) := by decide +kernel
theorem dX15_multiply_122 : decode cX15_multiply 122 = .ok (.aload_n 0, 1) := by decide +kernel
theorem dX15_multiply_123 : decode cX15_multiply 123 = .ok (.getfield 161, 3) := by decide +kernel
theorem dX15_multiply_126 : decode cX15_multiply 126 = .ok (.iload_n 2, 1) := by decide +kernel
theorem dX15_multiply_127 : decode cX15_multiply 127 = .ok (.aload_n 0, 1) := by decide +kernel
theorem dX15_multiply_128 : decode cX15_multiply 128 = .ok (.getfield 176, 3) := by decide +kernel
theorem dX15_multiply_131 : decode cX15_multiply 131 = .ok (.iload_n 1, 1) := by decide +kernel
theorem dX15_multiply_132 : decode cX15_multiply 132 = .ok (.iload_n 2, 1) := by decide +kernel
theorem dX15_multiply_133 : decode cX15_multiply 133 = .ok (.iadd, 1) := by decide +kernel
theorem dX15_multiply_134 : decode cX15_multiply 134 = .ok (.iaload, 1) := by decide +kernel
theorem dX15_multiply_135 : decode cX15_multiply 135 = .ok (.iastore, 1) := by decide +kernel
theorem dX15_multiply_136 : decode cX15_multiply 136 = .ok (.iinc 2 1, 3) := by decide +kernel
theorem dX15_multiply_139 : decode cX15_multiply 139 = .ok (.goto (-49), 3) := by decide +kernel
theorem dX15_multiply_142 : decode cX15_multiply 142 = .ok (.aload_n 0, 1) := by decide +kernel
theorem dX15_multiply_143 : decode cX15_multiply 143 = .ok (.aload_n 0, 1) := by decide +kernel
theorem dX15_multiply_144 : decode cX15_multiply 144 = .ok (.getfield 303, 3) := by decide +kernel
theorem dX15_multiply_147 : decode cX15_multiply 147 = .ok (.iload_n 1, 1) := by decide +kernel
theorem dX15_multiply_148 : decode cX15_multiply 148 = .ok (.isub, 1) := by decide +kernel
theorem dX15_multiply_149 : decode cX15_multiply 149 = .ok (.bipush (-2), 2) := by decide +kernel
theorem dX15_multiply_151 : decode cX15_multiply 151 = .ok (.invokevirtual 652, 3) := by decide +kernel
theorem dX15_multiply_154 : decode cX15_multiply 154 = .ok (.iconst 0, 1) := by decide +kernel
theorem dX15_multiply_155 : decode cX15_multiply 155 = .ok (.istore_n 2, 1) := by decide +kernel
theorem dX15_multiply_156 : decode cX15_multiply 156 = .ok (.iload_n 2, 1) := by decide +kernel
theorem dX15_multiply_157 : decode cX15_multiply 157 = .ok (.aload_n 0, 1) := by decide +kernel
theorem dX15_multiply_158 : decode cX15_multiply 158 = .ok (.getfield 303, 3) := by decide +kernel
theorem dX15_multiply_161 : decode cX15_multiply 161 = .ok (.iload_n 1, 1) := by decide +kernel
theorem dX15_multiply_162 : decode cX15_multiply 162 = .ok (.isub, 1) := by decide +kernel
theorem dX15_multiply_163 : decode cX15_multiply 163 = .ok (.if_icmp .ge 23, 3) := by decide +kernel
theorem dX15_multiply_166 : decode cX15_multiply 166 = .ok (.aload_n 0, 1) := by decide +kernel
theorem dX15_multiply_167 : decode cX15_multiply 167 = .ok (.getfield 176, 3) := by decide +kernel
theorem dX15_multiply_170 : decode cX15_multiply 170 = .ok (.iload_n 1, 1) := by decide +kernel
theorem dX15_multiply_171 : decode cX15_multiply 171 = .ok (.iload_n 2, 1) := by decide +kernel
theorem dX15_multiply_172 : decode cX15_multiply 172 = .ok (.iadd, 1) := by decide +kernel
theorem dX15_multiply_173 : decode cX15_multiply 173 = .ok (.aload_n 0, 1) := by decide +kernel
theorem dX15_multiply_174 : decode cX15_multiply 174 = .ok (.getfield 167, 3) := by decide +kernel
theorem dX15_multiply_177 : decode cX15_multiply 177 = .ok (.iload_n 2, 1) := by decide +kernel
theorem dX15_multiply_178 : decode cX15_multiply 178 = .ok (.iaload, 1) := by decide +kernel
theorem dX15_multiply_179 : decode cX15_multiply 179 = .ok (.iastore, 1) := by decide +kernel
theorem dX15_multiply_180 : decode cX15_multiply 180 = .ok (.iinc 2 1, 3) := by decide +kernel
theorem dX15_multiply_183 : decode cX15_multiply 183 = .ok (.goto (-27), 3) := by decide +kernel
theorem dX15_multiply_186 : decode cX15_multiply 186 = .ok (.iinc 1 1, 3) := by decide +kernel
theorem dX15_multiply_189 : decode cX15_multiply 189 = .ok (.goto (-109), 3) := by decide +kernel
theorem dX15_multiply_192 : decode cX15_multiply 192 = .ok (.iconst 0, 1) := by decide +kernel
theorem dX15_multiply_193 : decode cX15_multiply 193 = .ok (.istore_n 1, 1) := by decide +kernel
theorem dX15_multiply_194 : decode cX15_multiply 194 = .ok (.iload_n 1, 1) := by decide +kernel
theorem dX15_multiply_195 : decode cX15_multiply 195 = .ok (.aload_n 0, 1) := by decide +kernel
theorem dX15_multiply_196 : decode cX15_multiply 196 = .ok (.getfield 303, 3) := by decide +kernel
theorem dX15_multiply_199 : decode cX15_multiply 199 = .ok (.if_icmp .ge 21, 3) := by decide +kernel
theorem dX15_multiply_202 : decode cX15_multiply 202 = .ok (.aload_n 0, 1) := by decide +kernel
theorem dX15_multiply_203 : decode cX15_multiply 203 = .ok (.getfield 167, 3) := by decide +kernel
theorem dX15_multiply_206 : decode cX15_multiply 206 = .ok (.iload_n 1, 1) := by decide +kernel
theorem dX15_multiply_207 : decode cX15_multiply 207 = .ok (.aload_n 0, 1) := by decide +kernel
theorem dX15_multiply_208 : decode cX15_multiply 208 = .ok (.getfield 176, 3) := by decide +kernel
theorem dX15_multiply_211 : decode cX15_multiply 211 = .ok (.iload_n 1, 1) := by decide +kernel
theorem dX15_multiply_212 : decode cX15_multiply 212 = .ok (.iaload, 1) := by decide +kernel
theorem dX15_multiply_213 : decode cX15_multiply 213 = .ok (.iastore, 1) := by decide +kernel
theorem dX15_multiply_214 : decode cX15_multiply 214 = .ok (.iinc 1 1, 3) := by decide +kernel
theorem dX15_multiply_217 : decode cX15_multiply 217 = .ok (.goto (-23), 3) := by decide +kernel
theorem dX15_multiply_220 : decode cX15_multiply 220 = .ok (.return_, 1) := by decide +kernel
theorem dX15_divide_0 : decode cX15_divide 0 = .ok (.iconst 0, 1) := by decide +kernel
theorem dX15_divide_1 : decode cX15_divide 1 = .ok (.istore_n 1, 1) := by decide +kernel
theorem dX15_divide_2 : decode cX15_divide 2 = .ok (.iload_n 1, 1) := by decide +kernel
theorem dX15_divide_3 : decode cX15_divide 3 = .ok (.aload_n 0, 1) := by decide +kernel
theorem dX15_divide_4 : decode cX15_divide 4 = .ok (.getfield 303, 3) := by decide +kernel
theorem dX15_divide_7 : decode cX15_divide 7 = .ok (.if_icmp .gt 17, 3) := by decide +kernel
theorem dX15_divide_10 : decode cX15_divide 10 = .ok (.aload_n 0, 1) := by decide +kernel
theorem dX15_divide_11 : decode cX15_divide 11 = .ok (.getfield 179, 3) := by decide +kernel
theorem dX15_divide_14 : decode cX15_divide 14 = .ok (.iload_n 1, 1) := by decide +kernel
theorem dX15_divide_15 : decode cX15_divide 15 = .ok (.bipush (-2), 2) := by decide +kernel
theorem dX15_divide_17 : decode cX15_divide 17 = .ok (.iastore, 1) := by decide +kernel
theorem dX15_divide_18 : decode cX15_divide 18 = .ok (.iinc 1 1, 3) := by decide +kernel
theorem dX15_divide_21 : decode cX15_divide 21 = .ok (.goto (-19), 3) := by decide +kernel
theorem dX15_divide_24 : decode cX15_divide 24 = .ok (.aload_n 0, 1) := by decide +kernel
theorem dX15_divide_25 : decode cX15_divide 25 = .ok (.getfield 164, 3) := by decide +kernel
theorem dX15_divide_28 : decode cX15_divide 28 = .ok (.aload_n 0, 1) := by decide +kernel
theorem dX15_divide_29 : decode cX15_divide 29 = .ok (.getfield 303, 3) := by decide +kernel
theorem dX15_divide_32 : decode cX15_divide 32 = .ok (.bipush (-2), 2) := by decide +kernel
theorem dX15_divide_34 : decode cX15_divide 34 = .ok (.iastore, 1) := by decide +kernel
theorem dX15_divide_35 : decode cX15_divide 35 = .ok (.aload_n 0, 1) := by decide +kernel
theorem dX15_divide_36 : decode cX15_divide 36 = .ok (.getfield 303, 3) := by decide +kernel
theorem dX15_divide_39 : decode cX15_divide 39 = .ok (.iconst 1, 1) := by decide +kernel
theorem dX15_divide_40 : decode cX15_divide 40 = .ok (.isub, 1) := by decide +kernel
theorem dX15_divide_41 : decode cX15_divide 41 = .ok (.istore_n 1, 1) := by decide +kernel
theorem dX15_divide_42 : decode cX15_divide 42 = .ok (.iload_n 1, 1) := by decide +kernel
theorem dX15_divide_43 : decode cX15_divide 43 = .ok (.ifCond .lt 182, 3) := by decide +kernel
theorem dX15_divide_46 : decode cX15_divide 46 = .ok (.aload_n 0, 1) := by decide +kernel
theorem dX15_divide_47 : decode cX15_divide 47 = .ok (.getfield 303, 3) := by decide +kernel
theorem dX15_divide_50 : decode cX15_divide 50 = .ok (.istore_n 2, 1) := by decide +kernel
theorem dX15_divide_51 : decode cX15_divide 51 = .ok (.iload_n 2, 1) := by decide +kernel
theorem dX15_divide_52 : decode cX15_divide 52 = .ok (.ifCond .le 23, 3) := by decide +kernel
theorem dX15_divide_55 : decode cX15_divide 55 = .ok (.aload_n 0, 1) := by decide +kernel
theorem dX15_divide_56 : decode cX15_divide 56 = .ok (.getfield 167, 3) := by decide +kernel
theorem dX15_divide_59 : decode cX15_divide 59 = .ok (.iload_n 2, 1) := by decide +kernel
theorem dX15_divide_60 : decode cX15_divide 60 = .ok (.aload_n 0, 1) := by decide +kernel
theorem dX15_divide_61 : decode cX15_divide 61 = .ok (.getfield 179, 3) := by decide +kernel
theorem dX15_divide_64 : decode cX15_divide 64 = .ok (.iload_n 2, 1) := by decide +kernel
theorem dX15_divide_65 : decode cX15_divide 65 = .ok (.iconst 1, 1) := by decide +kernel
theorem dX15_divide_66 : decode cX15_divide 66 = .ok (.isub, 1) := by decide +kernel
theorem dX15_divide_67 : decode cX15_divide 67 = .ok (.iaload, 1) := by decide +kernel
theorem dX15_divide_68 : decode cX15_divide 68 = .ok (.iastore, 1) := by decide +kernel
theorem dX15_divide_69 : decode cX15_divide 69 = .ok (.iinc 2 (-1), 3) := by decide +kernel
theorem dX15_divide_72 : decode cX15_divide 72 = .ok (.goto (-21), 3) := by decide +kernel
theorem dX15_divide_75 : decode cX15_divide 75 = .ok (.aload_n 0, 1) := by decide +kernel
theorem dX15_divide_76 : decode cX15_divide 76 = .ok (.getfield 167, 3) := by decide +kernel
theorem dX15_divide_79 : decode cX15_divide 79 = .ok (.iconst 0, 1) := by decide +kernel
theorem dX15_divide_80 : decode cX15_divide 80 = .ok (.aload_n 0, 1) := by decide +kernel
theorem dX15_divide_81 : decode cX15_divide 81 = .ok (.getfield 161, 3) := by decide +kernel
theorem dX15_divide_84 : decode cX15_divide 84 = .ok (.iload_n 1, 1) := by decide +kernel
theorem dX15_divide_85 : decode cX15_divide 85 = .ok (.iaload, 1) := by decide +kernel
theorem dX15_divide_86 : decode cX15_divide 86 = .ok (.iastore, 1) := by decide +kernel
theorem dX15_divide_87 : decode cX15_divide 87 = .ok (.iconst (-1), 1) := by decide +kernel
theorem dX15_divide_88 : decode cX15_divide 88 = .ok (.istore_n 2, 1) := by decide +kernel
theorem dX15_divide_89 : decode cX15_divide 89 = .ok (.iconst 0, 1) := by decide +kernel
theorem dX15_divide_90 : decode cX15_divide 90 = .ok (.istore_n 3, 1) := by decide +kernel
theorem dX15_divide_91 : decode cX15_divide 91 = .ok (.iload_n 3, 1) := by decide +kernel
theorem dX15_divide_92 : decode cX15_divide 92 = .ok (.aload_n 0, 1) := by decide +kernel
theorem dX15_divide_93 : decode cX15_divide 93 = .ok (.getfield 303, 3) := by decide +kernel
theorem dX15_divide_96 : decode cX15_divide 96 = .ok (.if_icmp .gt 77, 3) := by decide +kernel
theorem dX15_divide_99 : decode cX15_divide 99 = .ok (.aload_n 0, 1) := by decide +kernel
theorem dX15_divide_100 : decode cX15_divide 100 = .ok (.aload_n 0, 1) := by decide +kernel
theorem dX15_divide_101 : decode cX15_divide 101 = .ok (.getfield 164, 3) := by decide +kernel
theorem dX15_divide_104 : decode cX15_divide 104 = .ok (.iload_n 3, 1) := by decide +kernel
theorem dX15_divide_105 : decode cX15_divide 105 = .ok (.iaload, 1) := by decide +kernel
theorem dX15_divide_106 : decode cX15_divide 106 = .ok (.iconst 1, 1) := by decide +kernel
theorem dX15_divide_107 : decode cX15_divide 107 = .ok (.ixor, 1) := by decide +kernel
theorem dX15_divide_108 : decode cX15_divide 108 = .ok (.iload_n 2, 1) := by decide +kernel
theorem dX15_divide_109 : decode cX15_divide 109 = .ok (.invokevirtual 642, 3) := by decide +kernel
theorem dX15_divide_112 : decode cX15_divide 112 = .ok (.istore 4, 2) := by decide +kernel
theorem dX15_divide_114 : decode cX15_divide 114 = .ok (.iload_n 3, 1) := by decide +kernel
theorem dX15_divide_115 : decode cX15_divide 115 = .ok (.aload_n 0, 1) := by decide +kernel
theorem dX15_divide_116 : decode cX15_divide 116 = .ok (.getfield 303, 3) := by decide +kernel
theorem dX15_divide_119 : decode cX15_divide 119 = .ok (.if_icmp .ge 21, 3) := by decide +kernel
theorem dX15_divide_122 : decode cX15_divide 122 = .ok (.aload_n 0, 1) := by decide +kernel
theorem dX15_divide_123 : decode cX15_divide 123 = .ok (.getfield 170, 3) := by decide +kernel
theorem dX15_divide_126 : decode cX15_divide 126 = .ok (.iload_n 3, 1) := by decide +kernel
theorem dX15_divide_127 : decode cX15_divide 127 = .ok (.aload_n 0, 1) := by decide +kernel
theorem dX15_divide_128 : decode cX15_divide 128 = .ok (.aload_n 0, 1) := by decide +kernel
theorem dX15_divide_129 : decode cX15_divide 129 = .ok (.getfield 167, 3) := by decide +kernel
theorem dX15_divide_132 : decode cX15_divide 132 = .ok (.iload_n 3, 1) := by decide +kernel
theorem dX15_divide_133 : decode cX15_divide 133 = .ok (.iaload, 1) := by decide +kernel
theorem dX15_divide_134 : decode cX15_divide 134 = .ok (.iload 4, 2) := by decide +kernel
theorem dX15_divide_136 : decode cX15_divide 136 = .ok (.invokevirtual 642, 3) := by decide +kernel
theorem dX15_divide_139 : decode cX15_divide 139 = .ok (.iastore, 1) := by decide +kernel
theorem dX15_divide_140 : decode cX15_divide 140 = .ok (.aload_n 0, 1) := by decide +kernel
theorem dX15_divide_141 : decode cX15_divide 141 = .ok (.aload_n 0, 1) := by decide +kernel
theorem dX15_divide_142 : decode cX15_divide 142 = .ok (.getfield 167, 3) := by decide +kernel
theorem dX15_divide_145 : decode cX15_divide 145 = .ok (.iload_n 3, 1) := by decide +kernel
theorem dX15_divide_146 : decode cX15_divide 146 = .ok (.iaload, 1) := by decide +kernel
theorem dX15_divide_147 : decode cX15_divide 147 = .ok (.iload_n 2, 1) := by decide +kernel
theorem dX15_divide_148 : decode cX15_divide 148 = .ok (.invokevirtual 642, 3) := by decide +kernel
theorem dX15_divide_151 : decode cX15_divide 151 = .ok (.istore 5, 2) := by decide +kernel
theorem dX15_divide_153 : decode cX15_divide 153 = .ok (.aload_n 0, 1) := by decide +kernel
theorem dX15_divide_154 : decode cX15_divide 154 = .ok (.iload_n 2, 1) := by decide +kernel
theorem dX15_divide_155 : decode cX15_divide 155 = .ok (.aload_n 0, 1) := by decide +kernel
theorem dX15_divide_156 : decode cX15_divide 156 = .ok (.iload 5, 2) := by decide +kernel
theorem dX15_divide_158 : decode cX15_divide 158 = .ok (.iload 4, 2) := by decide +kernel
theorem dX15_divide_160 : decode cX15_divide 160 = .ok (.invokevirtual 646, 3) := by decide +kernel
theorem dX15_divide_163 : decode cX15_divide 163 = .ok (.invokevirtual 642, 3) := by decide +kernel
theorem dX15_divide_166 : decode cX15_divide 166 = .ok (.istore_n 2, 1) := by decide +kernel
theorem dX15_divide_167 : decode cX15_divide 167 = .ok (.iinc 3 1, 3) := by decide +kernel
theorem dX15_divide_170 : decode cX15_divide 170 = .ok (.goto (-79), 3) := by decide +kernel
theorem dX15_divide_173 : decode cX15_divide 173 = .ok (.aload_n 0, 1) := by decide +kernel
theorem dX15_divide_174 : decode cX15_divide 174 = .ok (.getfield 182, 3) := by decide +kernel
theorem dX15_divide_177 : decode cX15_divide 177 = .ok (.iload_n 1, 1) := by decide +kernel
theorem dX15_divide_178 : decode cX15_divide 178 = .ok (.iload_n 2, 1) := by decide +kernel
theorem dX15_divide_179 : decode cX15_divide 179 = .ok (.iastore, 1) := by decide +kernel
theorem dX15_divide_180 : decode cX15_divide 180 = .ok (.iconst 0, 1) := by decide +kernel
theorem dX15_divide_181 : decode cX15_divide 181 = .ok (.istore_n 3, 1) := by decide +kernel
theorem dX15_divide_182 : decode cX15_divide 182 = .ok (.iload_n 3, 1) := by decide +kernel
theorem dX15_divide_183 : decode cX15_divide 183 = .ok (.aload_n 0, 1) := by decide +kernel
theorem dX15_divide_184 : decode cX15_divide 184 = .ok (.getfield 303, 3) := by decide +kernel
theorem dX15_divide_187 : decode cX15_divide 187 = .ok (.if_icmp .ge 32, 3) := by decide +kernel
theorem dX15_divide_190 : decode cX15_divide 190 = .ok (.aload_n 0, 1) := by decide +kernel
theorem dX15_divide_191 : decode cX15_divide 191 = .ok (.getfield 179, 3) := by decide +kernel
theorem dX15_divide_194 : decode cX15_divide 194 = .ok (.iload_n 3, 1) := by decide +kernel
theorem dX15_divide_195 : decode cX15_divide 195 = .ok (.aload_n 0, 1) := by decide +kernel
theorem dX15_divide_196 : decode cX15_divide 196 = .ok (.iload_n 2, 1) := by decide +kernel
theorem dX15_divide_197 : decode cX15_divide 197 = .ok (.aload_n 0, 1) := by decide +kernel
theorem dX15_divide_198 : decode cX15_divide 198 = .ok (.getfield 170, 3) := by decide +kernel
theorem dX15_divide_201 : decode cX15_divide 201 = .ok (.iload_n 3, 1) := by decide +kernel
theorem dX15_divide_202 : decode cX15_divide 202 = .ok (.iaload, 1) := by decide +kernel
theorem dX15_divide_203 : decode cX15_divide 203 = .ok (.aload_n 0, 1) := by decide +kernel
theorem dX15_divide_204 : decode cX15_divide 204 = .ok (.getfield 167, 3) := by decide +kernel
theorem dX15_divide_207 : decode cX15_divide 207 = .ok (.iload_n 3, 1) := by decide +kernel
theorem dX15_divide_208 : decode cX15_divide 208 = .ok (.iaload, 1) := by decide +kernel
theorem dX15_divide_209 : decode cX15_divide 209 = .ok (.invokevirtual 655, 3) := by decide +kernel
theorem dX15_divide_212 : decode cX15_divide 212 = .ok (.iastore, 1) := by decide +kernel
theorem dX15_divide_213 : decode cX15_divide 213 = .ok (.iinc 3 1, 3) := by decide +kernel
theorem dX15_divide_216 : decode cX15_divide 216 = .ok (.goto (-34), 3) := by decide +kernel
theorem dX15_divide_219 : decode cX15_divide 219 = .ok (.iinc 1 (-1), 3) := by decide +kernel
theorem dX15_divide_222 : decode cX15_divide 222 = .ok (.goto (-180), 3) := by decide +kernel
theorem dX15_divide_225 : decode cX15_divide 225 = .ok (.return_, 1) := by decide +kernel
theorem dX15_mux_0 : decode cX15_mux 0 = .ok (.aload_n 0, 1) := by decide +kernel
theorem dX15_mux_1 : decode cX15_mux 1 = .ok (.iload_n 3, 1) := by decide +kernel
theorem dX15_mux_2 : decode cX15_mux 2 = .ok (.aload_n 0, 1) := by decide +kernel
theorem dX15_mux_3 : decode cX15_mux 3 = .ok (.iload_n 1, 1) := by decide +kernel
theorem dX15_mux_4 : decode cX15_mux 4 = .ok (.aload_n 0, 1) := by decide +kernel
theorem dX15_mux_5 : decode cX15_mux 5 = .ok (.iload_n 2, 1) := by decide +kernel
theorem dX15_mux_6 : decode cX15_mux 6 = .ok (.iload_n 3, 1) := by decide +kernel
theorem dX15_mux_7 : decode cX15_mux 7 = .ok (.invokevirtual 642, 3) := by decide +kernel
theorem dX15_mux_10 : decode cX15_mux 10 = .ok (.invokevirtual 646, 3) := by decide +kernel
theorem dX15_mux_13 : decode cX15_mux 13 = .ok (.invokevirtual 642, 3) := by decide +kernel
theorem dX15_mux_16 : decode cX15_mux 16 = .ok (.ireturn, 1) := by decide +kernel
theorem dX15_statement_0 : decode cX15_statement 0 = .ok (.aload_n 0, 1) := by decide +kernel
theorem dX15_statement_1 : decode cX15_statement 1 = .ok (.getfield 22, 3) := by decide +kernel
theorem dX15_statement_4 : decode cX15_statement 4 = .ok (.iload_n 1, 1) := by decide +kernel
theorem dX15_statement_5 : decode cX15_statement 5 = .ok (.iaload, 1) := by decide +kernel
theorem dX15_statement_6 : decode cX15_statement 6 = .ok (.tableswitch 750 20 42 #[106, 138, 750, 750, 750, 151, 159, 750, 750, 169, 247, 750, 338, 750, 403, 456, 535, 593, 750, 600, 703, 750, 411], 106) := by decide +kernel
theorem dX15_statement_112 : decode cX15_statement 112 = .ok (.aload_n 0, 1) := by decide +kernel
theorem dX15_statement_113 : decode cX15_statement 113 = .ok (.getfield 185, 3) := by decide +kernel
theorem dX15_statement_116 : decode cX15_statement 116 = .ok (.aload_n 0, 1) := by decide +kernel
theorem dX15_statement_117 : decode cX15_statement 117 = .ok (.getfield 621, 3) := by decide +kernel
theorem dX15_statement_120 : decode cX15_statement 120 = .ok (.aload_n 0, 1) := by decide +kernel
theorem dX15_statement_121 : decode cX15_statement 121 = .ok (.getfield 31, 3) := by decide +kernel
theorem dX15_statement_124 : decode cX15_statement 124 = .ok (.iload_n 1, 1) := by decide +kernel
theorem dX15_statement_125 : decode cX15_statement 125 = .ok (.iaload, 1) := by decide +kernel
theorem dX15_statement_126 : decode cX15_statement 126 = .ok (.iastore, 1) := by decide +kernel
theorem dX15_statement_127 : decode cX15_statement 127 = .ok (.aload_n 0, 1) := by decide +kernel
theorem dX15_statement_128 : decode cX15_statement 128 = .ok (.dup, 1) := by decide +kernel
theorem dX15_statement_129 : decode cX15_statement 129 = .ok (.getfield 621, 3) := by decide +kernel
theorem dX15_statement_132 : decode cX15_statement 132 = .ok (.iconst 1, 1) := by decide +kernel
theorem dX15_statement_133 : decode cX15_statement 133 = .ok (.iadd, 1) := by decide +kernel
theorem dX15_statement_134 : decode cX15_statement 134 = .ok (.putfield 621, 3) := by decide +kernel
theorem dX15_statement_137 : decode cX15_statement 137 = .ok (.aload_n 0, 1) := by decide +kernel
theorem dX15_statement_138 : decode cX15_statement 138 = .ok (.invokevirtual 690, 3) := by decide +kernel
theorem dX15_statement_141 : decode cX15_statement 141 = .ok (.goto 615, 3) := by decide +kernel
theorem dX15_statement_144 : decode cX15_statement 144 = .ok (.aload_n 0, 1) := by decide +kernel
theorem dX15_statement_145 : decode cX15_statement 145 = .ok (.dup, 1) := by decide +kernel
theorem dX15_statement_146 : decode cX15_statement 146 = .ok (.getfield 621, 3) := by decide +kernel
theorem dX15_statement_149 : decode cX15_statement 149 = .ok (.iconst 1, 1) := by decide +kernel
theorem dX15_statement_150 : decode cX15_statement 150 = .ok (.isub, 1) := by decide +kernel
theorem dX15_statement_151 : decode cX15_statement 151 = .ok (.putfield 621, 3) := by decide +kernel
theorem dX15_statement_154 : decode cX15_statement 154 = .ok (.goto 602, 3) := by decide +kernel
theorem dX15_statement_157 : decode cX15_statement 157 = .ok (.aload_n 0, 1) := by decide +kernel
theorem dX15_statement_158 : decode cX15_statement 158 = .ok (.iload_n 1, 1) := by decide +kernel
theorem dX15_statement_159 : decode cX15_statement 159 = .ok (.invokevirtual 753, 3) := by decide +kernel
theorem dX15_statement_162 : decode cX15_statement 162 = .ok (.goto 594, 3) := by decide +kernel
theorem dX15_statement_165 : decode cX15_statement 165 = .ok (.aload_n 0, 1) := by decide +kernel
theorem dX15_statement_166 : decode cX15_statement 166 = .ok (.getfield 34, 3) := by decide +kernel
theorem dX15_statement_169 : decode cX15_statement 169 = .ok (.iload_n 1, 1) := by decide +kernel
theorem dX15_statement_170 : decode cX15_statement 170 = .ok (.laload, 1) := by decide +kernel
theorem dX15_statement_171 : decode cX15_statement 171 = .ok (.l2i, 1) := by decide +kernel
theorem dX15_statement_172 : decode cX15_statement 172 = .ok (.iconst 1, 1) := by decide +kernel
theorem dX15_statement_173 : decode cX15_statement 173 = .ok (.iadd, 1) := by decide +kernel
theorem dX15_statement_174 : decode cX15_statement 174 = .ok (.ireturn, 1) := by decide +kernel
theorem dX15_statement_175 : decode cX15_statement 175 = .ok (.aload_n 0, 1) := by decide +kernel
theorem dX15_statement_176 : decode cX15_statement 176 = .ok (.dup, 1) := by decide +kernel
theorem dX15_statement_177 : decode cX15_statement 177 = .ok (.getfield 681, 3) := by decide +kernel
theorem dX15_statement_180 : decode cX15_statement 180 = .ok (.iconst 1, 1) := by decide +kernel
theorem dX15_statement_181 : decode cX15_statement 181 = .ok (.isub, 1) := by decide +kernel
theorem dX15_statement_182 : decode cX15_statement 182 = .ok (.putfield 681, 3) := by decide +kernel
theorem dX15_statement_185 : decode cX15_statement 185 = .ok (.aload_n 0, 1) := by decide +kernel
theorem dX15_statement_186 : decode cX15_statement 186 = .ok (.getfield 225, 3) := by decide +kernel
theorem dX15_statement_189 : decode cX15_statement 189 = .ok (.aload_n 0, 1) := by decide +kernel
theorem dX15_statement_190 : decode cX15_statement 190 = .ok (.getfield 681, 3) := by decide +kernel
theorem dX15_statement_193 : decode cX15_statement 193 = .ok (.iaload, 1) := by decide +kernel
theorem dX15_statement_194 : decode cX15_statement 194 = .ok (.istore_n 2, 1) := by decide +kernel
theorem dX15_statement_195 : decode cX15_statement 195 = .ok (.iconst 0, 1) := by decide +kernel
theorem dX15_statement_196 : decode cX15_statement 196 = .ok (.istore_n 3, 1) := by decide +kernel
theorem dX15_statement_197 : decode cX15_statement 197 = .ok (.iload_n 3, 1) := by decide +kernel
theorem dX15_statement_198 : decode cX15_statement 198 = .ok (.bipush 32, 2) := by decide +kernel
theorem dX15_statement_200 : decode cX15_statement 200 = .ok (.if_icmp .ge 36, 3) := by decide +kernel
theorem dX15_statement_203 : decode cX15_statement 203 = .ok (.aload_n 0, 1) := by decide +kernel
theorem dX15_statement_204 : decode cX15_statement 204 = .ok (.getfield 158, 3) := by decide +kernel
theorem dX15_statement_207 : decode cX15_statement 207 = .ok (.bipush 32, 2) := by decide +kernel
theorem dX15_statement_209 : decode cX15_statement 209 = .ok (.iload_n 2, 1) := by decide +kernel
theorem dX15_statement_210 : decode cX15_statement 210 = .ok (.imul, 1) := by decide +kernel
theorem dX15_statement_211 : decode cX15_statement 211 = .ok (.iload_n 3, 1) := by decide +kernel
theorem dX15_statement_212 : decode cX15_statement 212 = .ok (.iadd, 1) := by decide +kernel
theorem dX15_statement_213 : decode cX15_statement 213 = .ok (.aload_n 0, 1) := by decide +kernel
theorem dX15_statement_214 : decode cX15_statement 214 = .ok (.getfield 158, 3) := by decide +kernel
theorem dX15_statement_217 : decode cX15_statement 217 = .ok (.bipush 32, 2) := by decide +kernel
theorem dX15_statement_219 : decode cX15_statement 219 = .ok (.aload_n 0, 1) := by decide +kernel
theorem dX15_statement_220 : decode cX15_statement 220 = .ok (.getfield 649, 3) := by decide +kernel
theorem dX15_statement_223 : decode cX15_statement 223 = .ok (.iconst 1, 1) := by decide +kernel
theorem dX15_statement_224 : decode cX15_statement 224 = .ok (.isub, 1) := by decide +kernel
theorem dX15_statement_225 : decode cX15_statement 225 = .ok (.imul, 1) := by decide +kernel
theorem dX15_statement_226 : decode cX15_statement 226 = .ok (.iload_n 3, 1) := by decide +kernel
theorem dX15_statement_227 : decode cX15_statement 227 = .ok (.iadd, 1) := by decide +kernel
theorem dX15_statement_228 : decode cX15_statement 228 = .ok (.iaload, 1) := by decide +kernel
theorem dX15_statement_229 : decode cX15_statement 229 = .ok (.iastore, 1) := by decide +kernel
theorem dX15_statement_230 : decode cX15_statement 230 = .ok (.iinc 3 1, 3) := by decide +kernel
theorem dX15_statement_233 : decode cX15_statement 233 = .ok (.goto (-36), 3) := by decide +kernel
theorem dX15_statement_236 : decode cX15_statement 236 = .ok (.aload_n 0, 1) := by decide +kernel
theorem dX15_statement_237 : decode cX15_statement 237 = .ok (.iload_n 2, 1) := by decide +kernel
theorem dX15_statement_238 : decode cX15_statement 238 = .ok (.iconst 1, 1) := by decide +kernel
theorem dX15_statement_239 : decode cX15_statement 239 = .ok (.iadd, 1) := by decide +kernel
theorem dX15_statement_240 : decode cX15_statement 240 = .ok (.putfield 649, 3) := by decide +kernel
theorem dX15_statement_243 : decode cX15_statement 243 = .ok (.aload_n 0, 1) := by decide +kernel
theorem dX15_statement_244 : decode cX15_statement 244 = .ok (.getfield 228, 3) := by decide +kernel
theorem dX15_statement_247 : decode cX15_statement 247 = .ok (.aload_n 0, 1) := by decide +kernel
theorem dX15_statement_248 : decode cX15_statement 248 = .ok (.getfield 681, 3) := by decide +kernel
theorem dX15_statement_251 : decode cX15_statement 251 = .ok (.iaload, 1) := by decide +kernel
theorem dX15_statement_252 : decode cX15_statement 252 = .ok (.ireturn, 1) := by decide +kernel
theorem dX15_statement_253 : decode cX15_statement 253 = .ok (.aload_n 0, 1) := by decide +kernel
theorem dX15_statement_254 : decode cX15_statement 254 = .ok (.getfield 151, 3) := by decide +kernel
theorem dX15_statement_257 : decode cX15_statement 257 = .ok (.aload_n 0, 1) := by decide +kernel
theorem dX15_statement_258 : decode cX15_statement 258 = .ok (.getfield 672, 3) := by decide +kernel
theorem dX15_statement_261 : decode cX15_statement 261 = .ok (.aload_n 0, 1) := by decide +kernel
theorem dX15_statement_262 : decode cX15_statement 262 = .ok (.aload_n 0, 1) := by decide +kernel
theorem dX15_statement_263 : decode cX15_statement 263 = .ok (.getfield 28, 3) := by decide +kernel
theorem dX15_statement_266 : decode cX15_statement 266 = .ok (.iload_n 1, 1) := by decide +kernel
theorem dX15_statement_267 : decode cX15_statement 267 = .ok (.iaload, 1) := by decide +kernel
theorem dX15_statement_268 : decode cX15_statement 268 = .ok (.invokevirtual 666, 3) := by decide +kernel
theorem dX15_statement_271 : decode cX15_statement 271 = .ok (.iastore, 1) := by decide +kernel
theorem dX15_statement_272 : decode cX15_statement 272 = .ok (.aload_n 0, 1) := by decide +kernel
theorem dX15_statement_273 : decode cX15_statement 273 = .ok (.dup, 1) := by decide +kernel
theorem dX15_statement_274 : decode cX15_statement 274 = .ok (.getfield 649, 3) := by decide +kernel
theorem dX15_statement_277 : decode cX15_statement 277 = .ok (.iconst 1, 1) := by decide +kernel
theorem dX15_statement_278 : decode cX15_statement 278 = .ok (.isub, 1) := by decide +kernel
theorem dX15_statement_279 : decode cX15_statement 279 = .ok (.putfield 649, 3) := by decide +kernel
theorem dX15_statement_282 : decode cX15_statement 282 = .ok (.iconst 0, 1) := by decide +kernel
theorem dX15_statement_283 : decode cX15_statement 283 = .ok (.istore_n 2, 1) := by decide +kernel
theorem dX15_statement_284 : decode cX15_statement 284 = .ok (.iload_n 2, 1) := by decide +kernel
theorem dX15_statement_285 : decode cX15_statement 285 = .ok (.aload_n 0, 1) := by decide +kernel
theorem dX15_statement_286 : decode cX15_statement 286 = .ok (.getfield 151, 3) := by decide +kernel
theorem dX15_statement_289 : decode cX15_statement 289 = .ok (.aload_n 0, 1) := by decide +kernel
theorem dX15_statement_290 : decode cX15_statement 290 = .ok (.getfield 672, 3) := by decide +kernel
theorem dX15_statement_293 : decode cX15_statement 293 = .ok (.iaload, 1) := by decide +kernel
theorem dX15_statement_294 : decode cX15_statement 294 = .ok (.if_icmp .ge 37, 3) := by decide +kernel
theorem dX15_statement_297 : decode cX15_statement 297 = .ok (.aload_n 0, 1) := by decide +kernel
theorem dX15_statement_298 : decode cX15_statement 298 = .ok (.getfield 154, 3) := by decide +kernel
theorem dX15_statement_301 : decode cX15_statement 301 = .ok (.bipush 32, 2) := by decide +kernel
theorem dX15_statement_303 : decode cX15_statement 303 = .ok (.aload_n 0, 1) := by decide +kernel
theorem dX15_statement_304 : decode cX15_statement 304 = .ok (.getfield 672, 3) := by decide +kernel
theorem dX15_statement_307 : decode cX15_statement 307 = .ok (.imul, 1) := by decide +kernel
theorem dX15_statement_308 : decode cX15_statement 308 = .ok (.iload_n 2, 1) := by decide +kernel
theorem dX15_statement_309 : decode cX15_statement 309 = .ok (.iadd, 1) := by decide +kernel
theorem dX15_statement_310 : decode cX15_statement 310 = .ok (.aload_n 0, 1) := by decide +kernel
theorem dX15_statement_311 : decode cX15_statement 311 = .ok (.getfield 158, 3) := by decide +kernel
theorem dX15_statement_314 : decode cX15_statement 314 = .ok (.bipush 32, 2) := by decide +kernel
theorem dX15_statement_316 : decode cX15_statement 316 = .ok (.aload_n 0, 1) := by decide +kernel
theorem dX15_statement_317 : decode cX15_statement 317 = .ok (.getfield 649, 3) := by decide +kernel
theorem dX15_statement_320 : decode cX15_statement 320 = .ok (.imul, 1) := by decide +kernel
theorem dX15_statement_321 : decode cX15_statement 321 = .ok (.iload_n 2, 1) := by decide +kernel
theorem dX15_statement_322 : decode cX15_statement 322 = .ok (.iadd, 1) := by decide +kernel
theorem dX15_statement_323 : decode cX15_statement 323 = .ok (.iaload, 1) := by decide +kernel
theorem dX15_statement_324 : decode cX15_statement 324 = .ok (.iastore, 1) := by decide +kernel
theorem dX15_statement_325 : decode cX15_statement 325 = .ok (.iinc 2 1, 3) := by decide +kernel
theorem dX15_statement_328 : decode cX15_statement 328 = .ok (.goto (-44), 3) := by decide +kernel
theorem dX15_statement_331 : decode cX15_statement 331 = .ok (.aload_n 0, 1) := by decide +kernel
theorem dX15_statement_332 : decode cX15_statement 332 = .ok (.dup, 1) := by decide +kernel
theorem dX15_statement_333 : decode cX15_statement 333 = .ok (.getfield 672, 3) := by decide +kernel
theorem dX15_statement_336 : decode cX15_statement 336 = .ok (.iconst 1, 1) := by decide +kernel
theorem dX15_statement_337 : decode cX15_statement 337 = .ok (.iadd, 1) := by decide +kernel
theorem dX15_statement_338 : decode cX15_statement 338 = .ok (.putfield 672, 3) := by decide +kernel
theorem dX15_statement_341 : decode cX15_statement 341 = .ok (.goto 415, 3) := by decide +kernel
theorem dX15_statement_344 : decode cX15_statement 344 = .ok (.aload_n 0, 1) := by decide +kernel
theorem dX15_statement_345 : decode cX15_statement 345 = .ok (.dup, 1) := by decide +kernel
theorem dX15_statement_346 : decode cX15_statement 346 = .ok (.getfield 649, 3) := by decide +kernel
theorem dX15_statement_349 : decode cX15_statement 349 = .ok (.iconst 1, 1) := by decide +kernel
theorem dX15_statement_350 : decode cX15_statement 350 = .ok (.isub, 1) := by decide +kernel
theorem dX15_statement_351 : decode cX15_statement 351 = .ok (.putfield 649, 3) := by decide +kernel
theorem dX15_statement_354 : decode cX15_statement 354 = .ok (.iconst 0, 1) := by decide +kernel
theorem dX15_statement_355 : decode cX15_statement 355 = .ok (.istore_n 2, 1) := by decide +kernel
theorem dX15_statement_356 : decode cX15_statement 356 = .ok (.iload_n 2, 1) := by decide +kernel
theorem dX15_statement_357 : decode cX15_statement 357 = .ok (.aload_n 0, 1) := by decide +kernel
theorem dX15_statement_358 : decode cX15_statement 358 = .ok (.aload_n 0, 1) := by decide +kernel
theorem dX15_statement_359 : decode cX15_statement 359 = .ok (.getfield 105, 3) := by decide +kernel
theorem dX15_statement_362 : decode cX15_statement 362 = .ok (.iload_n 1, 1) := by decide +kernel
theorem dX15_statement_363 : decode cX15_statement 363 = .ok (.iaload, 1) := by decide +kernel
theorem dX15_statement_364 : decode cX15_statement 364 = .ok (.invokevirtual 666, 3) := by decide +kernel
theorem dX15_statement_367 : decode cX15_statement 367 = .ok (.if_icmp .ge 39, 3) := by decide +kernel
theorem dX15_statement_370 : decode cX15_statement 370 = .ok (.aload_n 0, 1) := by decide +kernel
theorem dX15_statement_371 : decode cX15_statement 371 = .ok (.getfield 188, 3) := by decide +kernel
theorem dX15_statement_374 : decode cX15_statement 374 = .ok (.bipush 32, 2) := by decide +kernel
theorem dX15_statement_376 : decode cX15_statement 376 = .ok (.aload_n 0, 1) := by decide +kernel
theorem dX15_statement_377 : decode cX15_statement 377 = .ok (.getfield 99, 3) := by decide +kernel
theorem dX15_statement_380 : decode cX15_statement 380 = .ok (.iload_n 1, 1) := by decide +kernel
theorem dX15_statement_381 : decode cX15_statement 381 = .ok (.iaload, 1) := by decide +kernel
theorem dX15_statement_382 : decode cX15_statement 382 = .ok (.imul, 1) := by decide +kernel
theorem dX15_statement_383 : decode cX15_statement 383 = .ok (.iload_n 2, 1) := by decide +kernel
theorem dX15_statement_384 : decode cX15_statement 384 = .ok (.iadd, 1) := by decide +kernel
theorem dX15_statement_385 : decode cX15_statement 385 = .ok (.aload_n 0, 1) := by decide +kernel
theorem dX15_statement_386 : decode cX15_statement 386 = .ok (.getfield 158, 3) := by decide +kernel
theorem dX15_statement_389 : decode cX15_statement 389 = .ok (.bipush 32, 2) := by decide +kernel
theorem dX15_statement_391 : decode cX15_statement 391 = .ok (.aload_n 0, 1) := by decide +kernel
theorem dX15_statement_392 : decode cX15_statement 392 = .ok (.getfield 649, 3) := by decide +kernel
theorem dX15_statement_395 : decode cX15_statement 395 = .ok (.imul, 1) := by decide +kernel
theorem dX15_statement_396 : decode cX15_statement 396 = .ok (.iload_n 2, 1) := by decide +kernel
theorem dX15_statement_397 : decode cX15_statement 397 = .ok (.iadd, 1) := by decide +kernel
theorem dX15_statement_398 : decode cX15_statement 398 = .ok (.iaload, 1) := by decide +kernel
theorem dX15_statement_399 : decode cX15_statement 399 = .ok (.iastore, 1) := by decide +kernel
theorem dX15_statement_400 : decode cX15_statement 400 = .ok (.iinc 2 1, 3) := by decide +kernel
theorem dX15_statement_403 : decode cX15_statement 403 = .ok (.goto (-47), 3) := by decide +kernel
theorem dX15_statement_406 : decode cX15_statement 406 = .ok (.goto 350, 3) := by decide +kernel
theorem dX15_statement_409 : decode cX15_statement 409 = .ok (.aload_n 0, 1) := by decide +kernel
theorem dX15_statement_410 : decode cX15_statement 410 = .ok (.iload_n 1, 1) := by decide +kernel
theorem dX15_statement_411 : decode cX15_statement 411 = .ok (.invokevirtual 756, 3) := by decide +kernel
theorem dX15_statement_414 : decode cX15_statement 414 = .ok (.goto 342, 3) := by decide +kernel
theorem dX15_statement_417 : decode cX15_statement 417 = .ok (.aload_n 0, 1) := by decide +kernel
theorem dX15_statement_418 : decode cX15_statement 418 = .ok (.getfield 111, 3) := by decide +kernel
theorem dX15_statement_421 : decode cX15_statement 421 = .ok (.iload_n 1, 1) := by decide +kernel
theorem dX15_statement_422 : decode cX15_statement 422 = .ok (.baload, 1) := by decide +kernel
theorem dX15_statement_423 : decode cX15_statement 423 = .ok (.ifCond .eq 333, 3) := by decide +kernel
theorem dX15_statement_426 : decode cX15_statement 426 = .ok (.aload_n 0, 1) := by decide +kernel
theorem dX15_statement_427 : decode cX15_statement 427 = .ok (.aload_n 0, 1) := by decide +kernel
theorem dX15_statement_428 : decode cX15_statement 428 = .ok (.getfield 649, 3) := by decide +kernel
theorem dX15_statement_431 : decode cX15_statement 431 = .ok (.iconst 1, 1) := by decide +kernel
theorem dX15_statement_432 : decode cX15_statement 432 = .ok (.isub, 1) := by decide +kernel
theorem dX15_statement_433 : decode cX15_statement 433 = .ok (.invokevirtual 712, 3) := by decide +kernel
theorem dX15_statement_436 : decode cX15_statement 436 = .ok (.aload_n 0, 1) := by decide +kernel
theorem dX15_statement_437 : decode cX15_statement 437 = .ok (.getfield 102, 3) := by decide +kernel
theorem dX15_statement_440 : decode cX15_statement 440 = .ok (.iload_n 1, 1) := by decide +kernel
theorem dX15_statement_441 : decode cX15_statement 441 = .ok (.iaload, 1) := by decide +kernel
theorem dX15_statement_442 : decode cX15_statement 442 = .ok (.i2l, 1) := by decide +kernel
theorem dX15_statement_443 : decode cX15_statement 443 = .ok (.lcmp, 1) := by decide +kernel
theorem dX15_statement_444 : decode cX15_statement 444 = .ok (.ifCond .lt 312, 3) := by decide +kernel
theorem dX15_statement_447 : decode cX15_statement 447 = .ok (.aload_n 0, 1) := by decide +kernel
theorem dX15_statement_448 : decode cX15_statement 448 = .ok (.bipush 7, 2) := by decide +kernel
theorem dX15_statement_450 : decode cX15_statement 450 = .ok (.aload_n 0, 1) := by decide +kernel
theorem dX15_statement_451 : decode cX15_statement 451 = .ok (.getfield 108, 3) := by decide +kernel
theorem dX15_statement_454 : decode cX15_statement 454 = .ok (.iload_n 1, 1) := by decide +kernel
theorem dX15_statement_455 : decode cX15_statement 455 = .ok (.iaload, 1) := by decide +kernel
theorem dX15_statement_456 : decode cX15_statement 456 = .ok (.invokevirtual 390, 3) := by decide +kernel
theorem dX15_statement_459 : decode cX15_statement 459 = .ok (.goto 297, 3) := by decide +kernel
theorem dX15_statement_462 : decode cX15_statement 462 = .ok (.aload_n 0, 1) := by decide +kernel
theorem dX15_statement_463 : decode cX15_statement 463 = .ok (.dup, 1) := by decide +kernel
theorem dX15_statement_464 : decode cX15_statement 464 = .ok (.getfield 649, 3) := by decide +kernel
theorem dX15_statement_467 : decode cX15_statement 467 = .ok (.iconst 1, 1) := by decide +kernel
theorem dX15_statement_468 : decode cX15_statement 468 = .ok (.isub, 1) := by decide +kernel
theorem dX15_statement_469 : decode cX15_statement 469 = .ok (.putfield 649, 3) := by decide +kernel
theorem dX15_statement_472 : decode cX15_statement 472 = .ok (.aload_n 0, 1) := by decide +kernel
theorem dX15_statement_473 : decode cX15_statement 473 = .ok (.getfield 200, 3) := by decide +kernel
theorem dX15_statement_476 : decode cX15_statement 476 = .ok (.aload_n 0, 1) := by decide +kernel
theorem dX15_statement_477 : decode cX15_statement 477 = .ok (.getfield 678, 3) := by decide +kernel
theorem dX15_statement_480 : decode cX15_statement 480 = .ok (.aload_n 0, 1) := by decide +kernel
theorem dX15_statement_481 : decode cX15_statement 481 = .ok (.getfield 158, 3) := by decide +kernel
theorem dX15_statement_484 : decode cX15_statement 484 = .ok (.bipush 32, 2) := by decide +kernel
theorem dX15_statement_486 : decode cX15_statement 486 = .ok (.aload_n 0, 1) := by decide +kernel
theorem dX15_statement_487 : decode cX15_statement 487 = .ok (.getfield 649, 3) := by decide +kernel
theorem dX15_statement_490 : decode cX15_statement 490 = .ok (.imul, 1) := by decide +kernel
theorem dX15_statement_491 : decode cX15_statement 491 = .ok (.iaload, 1) := by decide +kernel
theorem dX15_statement_492 : decode cX15_statement 492 = .ok (.iastore, 1) := by decide +kernel
theorem dX15_statement_493 : decode cX15_statement 493 = .ok (.aload_n 0, 1) := by decide +kernel
theorem dX15_statement_494 : decode cX15_statement 494 = .ok (.getfield 203, 3) := by decide +kernel
theorem dX15_statement_497 : decode cX15_statement 497 = .ok (.aload_n 0, 1) := by decide +kernel
theorem dX15_statement_498 : decode cX15_statement 498 = .ok (.getfield 678, 3) := by decide +kernel
theorem dX15_statement_501 : decode cX15_statement 501 = .ok (.aload_n 0, 1) := by decide +kernel
theorem dX15_statement_502 : decode cX15_statement 502 = .ok (.getfield 675, 3) := by decide +kernel
theorem dX15_statement_505 : decode cX15_statement 505 = .ok (.iastore, 1) := by decide +kernel
theorem dX15_statement_506 : decode cX15_statement 506 = .ok (.aload_n 0, 1) := by decide +kernel
theorem dX15_statement_507 : decode cX15_statement 507 = .ok (.getfield 206, 3) := by decide +kernel
theorem dX15_statement_510 : decode cX15_statement 510 = .ok (.aload_n 0, 1) := by decide +kernel
theorem dX15_statement_511 : decode cX15_statement 511 = .ok (.getfield 678, 3) := by decide +kernel
theorem dX15_statement_514 : decode cX15_statement 514 = .ok (.iconst 0, 1) := by decide +kernel
theorem dX15_statement_515 : decode cX15_statement 515 = .ok (.bastore, 1) := by decide +kernel
theorem dX15_statement_516 : decode cX15_statement 516 = .ok (.aload_n 0, 1) := by decide +kernel
theorem dX15_statement_517 : decode cX15_statement 517 = .ok (.aload_n 0, 1) := by decide +kernel
theorem dX15_statement_518 : decode cX15_statement 518 = .ok (.getfield 210, 3) := by decide +kernel
theorem dX15_statement_521 : decode cX15_statement 521 = .ok (.aload_n 0, 1) := by decide +kernel
theorem dX15_statement_522 : decode cX15_statement 522 = .ok (.getfield 678, 3) := by decide +kernel
theorem dX15_statement_525 : decode cX15_statement 525 = .ok (.invokevirtual 746, 3) := by decide +kernel
theorem dX15_statement_528 : decode cX15_statement 528 = .ok (.aload_n 0, 1) := by decide +kernel
theorem dX15_statement_529 : decode cX15_statement 529 = .ok (.dup, 1) := by decide +kernel
theorem dX15_statement_530 : decode cX15_statement 530 = .ok (.getfield 678, 3) := by decide +kernel
theorem dX15_statement_533 : decode cX15_statement 533 = .ok (.iconst 1, 1) := by decide +kernel
theorem dX15_statement_534 : decode cX15_statement 534 = .ok (.iadd, 1) := by decide +kernel
theorem dX15_statement_535 : decode cX15_statement 535 = .ok (.putfield 678, 3) := by decide +kernel
theorem dX15_statement_538 : decode cX15_statement 538 = .ok (.goto 218, 3) := by decide +kernel
theorem dX15_statement_541 : decode cX15_statement 541 = .ok (.aload_n 0, 1) := by decide +kernel
theorem dX15_statement_542 : decode cX15_statement 542 = .ok (.aload_n 0, 1) := by decide +kernel
theorem dX15_statement_543 : decode cX15_statement 543 = .ok (.getfield 203, 3) := by decide +kernel
theorem dX15_statement_546 : decode cX15_statement 546 = .ok (.aload_n 0, 1) := by decide +kernel
theorem dX15_statement_547 : decode cX15_statement 547 = .ok (.getfield 678, 3) := by decide +kernel
theorem dX15_statement_550 : decode cX15_statement 550 = .ok (.iconst 1, 1) := by decide +kernel
theorem dX15_statement_551 : decode cX15_statement 551 = .ok (.isub, 1) := by decide +kernel
theorem dX15_statement_552 : decode cX15_statement 552 = .ok (.iaload, 1) := by decide +kernel
theorem dX15_statement_553 : decode cX15_statement 553 = .ok (.putfield 675, 3) := by decide +kernel
theorem dX15_statement_556 : decode cX15_statement 556 = .ok (.aload_n 0, 1) := by decide +kernel
theorem dX15_statement_557 : decode cX15_statement 557 = .ok (.getfield 206, 3) := by decide +kernel
theorem dX15_statement_560 : decode cX15_statement 560 = .ok (.aload_n 0, 1) := by decide +kernel
theorem dX15_statement_561 : decode cX15_statement 561 = .ok (.getfield 678, 3) := by decide +kernel
theorem dX15_statement_564 : decode cX15_statement 564 = .ok (.iconst 1, 1) := by decide +kernel
theorem dX15_statement_565 : decode cX15_statement 565 = .ok (.isub, 1) := by decide +kernel
theorem dX15_statement_566 : decode cX15_statement 566 = .ok (.iconst 1, 1) := by decide +kernel
theorem dX15_statement_567 : decode cX15_statement 567 = .ok (.bastore, 1) := by decide +kernel
theorem dX15_statement_568 : decode cX15_statement 568 = .ok (.aload_n 0, 1) := by decide +kernel
theorem dX15_statement_569 : decode cX15_statement 569 = .ok (.aload_n 0, 1) := by decide +kernel
theorem dX15_statement_570 : decode cX15_statement 570 = .ok (.getfield 213, 3) := by decide +kernel
theorem dX15_statement_573 : decode cX15_statement 573 = .ok (.aload_n 0, 1) := by decide +kernel
theorem dX15_statement_574 : decode cX15_statement 574 = .ok (.getfield 678, 3) := by decide +kernel
theorem dX15_statement_577 : decode cX15_statement 577 = .ok (.iconst 1, 1) := by decide +kernel
theorem dX15_statement_578 : decode cX15_statement 578 = .ok (.isub, 1) := by decide +kernel
theorem dX15_statement_579 : decode cX15_statement 579 = .ok (.invokevirtual 746, 3) := by decide +kernel
theorem dX15_statement_582 : decode cX15_statement 582 = .ok (.aload_n 0, 1) := by decide +kernel
theorem dX15_statement_583 : decode cX15_statement 583 = .ok (.aload_n 0, 1) := by decide +kernel
theorem dX15_statement_584 : decode cX15_statement 584 = .ok (.getfield 210, 3) := by decide +kernel
theorem dX15_statement_587 : decode cX15_statement 587 = .ok (.aload_n 0, 1) := by decide +kernel
theorem dX15_statement_588 : decode cX15_statement 588 = .ok (.getfield 678, 3) := by decide +kernel
theorem dX15_statement_591 : decode cX15_statement 591 = .ok (.iconst 1, 1) := by decide +kernel
theorem dX15_statement_592 : decode cX15_statement 592 = .ok (.isub, 1) := by decide +kernel
theorem dX15_statement_593 : decode cX15_statement 593 = .ok (.invokevirtual 750, 3) := by decide +kernel
theorem dX15_statement_596 : decode cX15_statement 596 = .ok (.goto 160, 3) := by decide +kernel
theorem dX15_statement_599 : decode cX15_statement 599 = .ok (.aload_n 0, 1) := by decide +kernel
theorem dX15_statement_600 : decode cX15_statement 600 = .ok (.invokevirtual 759, 3) := by decide +kernel
theorem dX15_statement_603 : decode cX15_statement 603 = .ok (.goto 153, 3) := by decide +kernel
theorem dX15_statement_606 : decode cX15_statement 606 = .ok (.aload_n 0, 1) := by decide +kernel
theorem dX15_statement_607 : decode cX15_statement 607 = .ok (.aload_n 0, 1) := by decide +kernel
theorem dX15_statement_608 : decode cX15_statement 608 = .ok (.getfield 649, 3) := by decide +kernel
theorem dX15_statement_611 : decode cX15_statement 611 = .ok (.iconst 1, 1) := by decide +kernel
theorem dX15_statement_612 : decode cX15_statement 612 = .ok (.isub, 1) := by decide +kernel
theorem dX15_statement_613 : decode cX15_statement 613 = .ok (.invokevirtual 712, 3) := by decide +kernel
theorem dX15_statement_616 : decode cX15_statement 616 = .ok (.lstore_n 2, 1) := by decide +kernel
theorem dX15_statement_617 : decode cX15_statement 617 = .ok (.aload_n 0, 1) := by decide +kernel
theorem dX15_statement_618 : decode cX15_statement 618 = .ok (.aload_n 0, 1) := by decide +kernel
theorem dX15_statement_619 : decode cX15_statement 619 = .ok (.getfield 649, 3) := by decide +kernel
theorem dX15_statement_622 : decode cX15_statement 622 = .ok (.iconst 2, 1) := by decide +kernel
theorem dX15_statement_623 : decode cX15_statement 623 = .ok (.isub, 1) := by decide +kernel
theorem dX15_statement_624 : decode cX15_statement 624 = .ok (.invokevirtual 712, 3) := by decide +kernel
theorem dX15_statement_627 : decode cX15_statement 627 = .ok (.lstore 4, 2) := by decide +kernel
theorem dX15_statement_629 : decode cX15_statement 629 = .ok (.aload_n 0, 1) := by decide +kernel
theorem dX15_statement_630 : decode cX15_statement 630 = .ok (.dup, 1) := by decide +kernel
theorem dX15_statement_631 : decode cX15_statement 631 = .ok (.getfield 649, 3) := by decide +kernel
theorem dX15_statement_634 : decode cX15_statement 634 = .ok (.iconst 2, 1) := by decide +kernel
theorem dX15_statement_635 : decode cX15_statement 635 = .ok (.isub, 1) := by decide +kernel
theorem dX15_statement_636 : decode cX15_statement 636 = .ok (.putfield 649, 3) := by decide +kernel
theorem dX15_statement_639 : decode cX15_statement 639 = .ok (.lload 4, 2) := by decide +kernel
theorem dX15_statement_641 : decode cX15_statement 641 = .ok (.lload_n 2, 1) := by decide +kernel
theorem dX15_statement_642 : decode cX15_statement 642 = .ok (.lcmp, 1) := by decide +kernel
theorem dX15_statement_643 : decode cX15_statement 643 = .ok (.ifCond .le 12, 3) := by decide +kernel
theorem dX15_statement_646 : decode cX15_statement 646 = .ok (.aload_n 0, 1) := by decide +kernel
theorem dX15_statement_647 : decode cX15_statement 647 = .ok (.getfield 28, 3) := by decide +kernel
theorem dX15_statement_650 : decode cX15_statement 650 = .ok (.iload_n 1, 1) := by decide +kernel
theorem dX15_statement_651 : decode cX15_statement 651 = .ok (.iaload, 1) := by decide +kernel
theorem dX15_statement_652 : decode cX15_statement 652 = .ok (.iconst 1, 1) := by decide +kernel
theorem dX15_statement_653 : decode cX15_statement 653 = .ok (.iadd, 1) := by decide +kernel
theorem dX15_statement_654 : decode cX15_statement 654 = .ok (.ireturn, 1) := by decide +kernel
theorem dX15_statement_655 : decode cX15_statement 655 = .ok (.lload_n 2, 1) := by decide +kernel
theorem dX15_statement_656 : decode cX15_statement 656 = .ok (.lload 4, 2) := by decide +kernel
theorem dX15_statement_658 : decode cX15_statement 658 = .ok (.lsub, 1) := by decide +kernel
theorem dX15_statement_659 : decode cX15_statement 659 = .ok (.ldc2_w 606, 3) := by decide +kernel
theorem dX15_statement_662 : decode cX15_statement 662 = .ok (.lcmp, 1) := by decide +kernel
theorem dX15_statement_663 : decode cX15_statement 663 = .ok (.ifCond .le 18, 3) := by decide +kernel
theorem dX15_statement_666 : decode cX15_statement 666 = .ok (.aload_n 0, 1) := by decide +kernel
theorem dX15_statement_667 : decode cX15_statement 667 = .ok (.bipush 7, 2) := by decide +kernel
theorem dX15_statement_669 : decode cX15_statement 669 = .ok (.aload_n 0, 1) := by decide +kernel
theorem dX15_statement_670 : decode cX15_statement 670 = .ok (.getfield 31, 3) := by decide +kernel
theorem dX15_statement_673 : decode cX15_statement 673 = .ok (.iload_n 1, 1) := by decide +kernel
theorem dX15_statement_674 : decode cX15_statement 674 = .ok (.iaload, 1) := by decide +kernel
theorem dX15_statement_675 : decode cX15_statement 675 = .ok (.invokevirtual 390, 3) := by decide +kernel
theorem dX15_statement_678 : decode cX15_statement 678 = .ok (.goto 78, 3) := by decide +kernel
theorem dX15_statement_681 : decode cX15_statement 681 = .ok (.aload_n 0, 1) := by decide +kernel
theorem dX15_statement_682 : decode cX15_statement 682 = .ok (.getfield 216, 3) := by decide +kernel
theorem dX15_statement_685 : decode cX15_statement 685 = .ok (.iload_n 1, 1) := by decide +kernel
theorem dX15_statement_686 : decode cX15_statement 686 = .ok (.lload 4, 2) := by decide +kernel
theorem dX15_statement_688 : decode cX15_statement 688 = .ok (.lastore, 1) := by decide +kernel
theorem dX15_statement_689 : decode cX15_statement 689 = .ok (.aload_n 0, 1) := by decide +kernel
theorem dX15_statement_690 : decode cX15_statement 690 = .ok (.getfield 219, 3) := by decide +kernel
theorem dX15_statement_693 : decode cX15_statement 693 = .ok (.iload_n 1, 1) := by decide +kernel
theorem dX15_statement_694 : decode cX15_statement 694 = .ok (.lload_n 2, 1) := by decide +kernel
theorem dX15_statement_695 : decode cX15_statement 695 = .ok (.lastore, 1) := by decide +kernel
theorem dX15_statement_696 : decode cX15_statement 696 = .ok (.aload_n 0, 1) := by decide +kernel
theorem dX15_statement_697 : decode cX15_statement 697 = .ok (.getfield 222, 3) := by decide +kernel
theorem dX15_statement_700 : decode cX15_statement 700 = .ok (.iload_n 1, 1) := by decide +kernel
theorem dX15_statement_701 : decode cX15_statement 701 = .ok (.aload_n 0, 1) := by decide +kernel
theorem dX15_statement_702 : decode cX15_statement 702 = .ok (.getfield 675, 3) := by decide +kernel
theorem dX15_statement_705 : decode cX15_statement 705 = .ok (.iastore, 1) := by decide +kernel
theorem dX15_statement_706 : decode cX15_statement 706 = .ok (.goto 50, 3) := by decide +kernel
theorem dX15_statement_709 : decode cX15_statement 709 = .ok (.aload_n 0, 1) := by decide +kernel
theorem dX15_statement_710 : decode cX15_statement 710 = .ok (.getfield 25, 3) := by decide +kernel
theorem dX15_statement_713 : decode cX15_statement 713 = .ok (.iload_n 1, 1) := by decide +kernel
theorem dX15_statement_714 : decode cX15_statement 714 = .ok (.iaload, 1) := by decide +kernel
theorem dX15_statement_715 : decode cX15_statement 715 = .ok (.istore_n 2, 1) := by decide +kernel
theorem dX15_statement_716 : decode cX15_statement 716 = .ok (.aload_n 0, 1) := by decide +kernel
theorem dX15_statement_717 : decode cX15_statement 717 = .ok (.aload_n 0, 1) := by decide +kernel
theorem dX15_statement_718 : decode cX15_statement 718 = .ok (.getfield 222, 3) := by decide +kernel
theorem dX15_statement_721 : decode cX15_statement 721 = .ok (.iload_n 2, 1) := by decide +kernel
theorem dX15_statement_722 : decode cX15_statement 722 = .ok (.iaload, 1) := by decide +kernel
theorem dX15_statement_723 : decode cX15_statement 723 = .ok (.putfield 675, 3) := by decide +kernel
theorem dX15_statement_726 : decode cX15_statement 726 = .ok (.aload_n 0, 1) := by decide +kernel
theorem dX15_statement_727 : decode cX15_statement 727 = .ok (.getfield 216, 3) := by decide +kernel
theorem dX15_statement_730 : decode cX15_statement 730 = .ok (.iload_n 2, 1) := by decide +kernel
theorem dX15_statement_731 : decode cX15_statement 731 = .ok (.laload, 1) := by decide +kernel
theorem dX15_statement_732 : decode cX15_statement 732 = .ok (.aload_n 0, 1) := by decide +kernel
theorem dX15_statement_733 : decode cX15_statement 733 = .ok (.getfield 219, 3) := by decide +kernel
theorem dX15_statement_736 : decode cX15_statement 736 = .ok (.iload_n 2, 1) := by decide +kernel
theorem dX15_statement_737 : decode cX15_statement 737 = .ok (.laload, 1) := by decide +kernel
theorem dX15_statement_738 : decode cX15_statement 738 = .ok (.lcmp, 1) := by decide +kernel
theorem dX15_statement_739 : decode cX15_statement 739 = .ok (.ifCond .ge 17, 3) := by decide +kernel
theorem dX15_statement_742 : decode cX15_statement 742 = .ok (.aload_n 0, 1) := by decide +kernel
theorem dX15_statement_743 : decode cX15_statement 743 = .ok (.getfield 216, 3) := by decide +kernel
theorem dX15_statement_746 : decode cX15_statement 746 = .ok (.iload_n 2, 1) := by decide +kernel
theorem dX15_statement_747 : decode cX15_statement 747 = .ok (.dup2, 1) := by decide +kernel
theorem dX15_statement_748 : decode cX15_statement 748 = .ok (.laload, 1) := by decide +kernel
theorem dX15_statement_749 : decode cX15_statement 749 = .ok (.lconst 1, 1) := by decide +kernel
theorem dX15_statement_750 : decode cX15_statement 750 = .ok (.ladd, 1) := by decide +kernel
theorem dX15_statement_751 : decode cX15_statement 751 = .ok (.lastore, 1) := by decide +kernel
theorem dX15_statement_752 : decode cX15_statement 752 = .ok (.iload_n 2, 1) := by decide +kernel
theorem dX15_statement_753 : decode cX15_statement 753 = .ok (.iconst 1, 1) := by decide +kernel
theorem dX15_statement_754 : decode cX15_statement 754 = .ok (.iadd, 1) := by decide +kernel
theorem dX15_statement_755 : decode cX15_statement 755 = .ok (.ireturn, 1) := by decide +kernel
theorem dX15_statement_756 : decode cX15_statement 756 = .ok (.iload_n 1, 1) := by decide +kernel
theorem dX15_statement_757 : decode cX15_statement 757 = .ok (.iconst 1, 1) := by decide +kernel
theorem dX15_statement_758 : decode cX15_statement 758 = .ok (.iadd, 1) := by decide +kernel
theorem dX15_statement_759 : decode cX15_statement 759 = .ok (.ireturn, 1) := by decide +kernel
theorem dX15_variable_0 : decode cX15_variable 0 = .ok (.aload_n 0, 1) := by decide +kernel
theorem dX15_variable_1 : decode cX15_variable 1 = .ok (.aload_n 0, 1) := by decide +kernel
theorem dX15_variable_2 : decode cX15_variable 2 = .ok (.getfield 28, 3) := by decide +kernel
theorem dX15_variable_5 : decode cX15_variable 5 = .ok (.iload_n 1, 1) := by decide +kernel
theorem dX15_variable_6 : decode cX15_variable 6 = .ok (.iaload, 1) := by decide +kernel
theorem dX15_variable_7 : decode cX15_variable 7 = .ok (.invokevirtual 666, 3) := by decide +kernel
theorem dX15_variable_10 : decode cX15_variable 10 = .ok (.istore_n 2, 1) := by decide +kernel
theorem dX15_variable_11 : decode cX15_variable 11 = .ok (.aload_n 0, 1) := by decide +kernel
theorem dX15_variable_12 : decode cX15_variable 12 = .ok (.getfield 34, 3) := by decide +kernel
theorem dX15_variable_15 : decode cX15_variable 15 = .ok (.iload_n 1, 1) := by decide +kernel
theorem dX15_variable_16 : decode cX15_variable 16 = .ok (.laload, 1) := by decide +kernel
theorem dX15_variable_17 : decode cX15_variable 17 = .ok (.ldc2_w 499, 3) := by decide +kernel
theorem dX15_variable_20 : decode cX15_variable 20 = .ok (.lcmp, 1) := by decide +kernel
theorem dX15_variable_21 : decode cX15_variable 21 = .ok (.ifCond .lt 7, 3) := by decide +kernel
theorem dX15_variable_24 : decode cX15_variable 24 = .ok (.iconst 1, 1) := by decide +kernel
theorem dX15_variable_25 : decode cX15_variable 25 = .ok (.goto 4, 3) := by decide +kernel
theorem dX15_variable_28 : decode cX15_variable 28 = .ok (.iconst 0, 1) := by decide +kernel
theorem dX15_variable_29 : decode cX15_variable 29 = .ok (.istore_n 3, 1) := by decide +kernel
theorem dX15_variable_30 : decode cX15_variable 30 = .ok (.aload_n 0, 1) := by decide +kernel
theorem dX15_variable_31 : decode cX15_variable 31 = .ok (.getfield 34, 3) := by decide +kernel
theorem dX15_variable_34 : decode cX15_variable 34 = .ok (.iload_n 1, 1) := by decide +kernel
theorem dX15_variable_35 : decode cX15_variable 35 = .ok (.laload, 1) := by decide +kernel
theorem dX15_variable_36 : decode cX15_variable 36 = .ok (.bipush 8, 2) := by decide +kernel
theorem dX15_variable_38 : decode cX15_variable 38 = .ok (.lshr, 1) := by decide +kernel
theorem dX15_variable_39 : decode cX15_variable 39 = .ok (.ldc2_w 606, 3) := by decide +kernel
theorem dX15_variable_42 : decode cX15_variable 42 = .ok (.land, 1) := by decide +kernel
theorem dX15_variable_43 : decode cX15_variable 43 = .ok (.l2i, 1) := by decide +kernel
theorem dX15_variable_44 : decode cX15_variable 44 = .ok (.istore 4, 2) := by decide +kernel
theorem dX15_variable_46 : decode cX15_variable 46 = .ok (.aload_n 0, 1) := by decide +kernel
theorem dX15_variable_47 : decode cX15_variable 47 = .ok (.lconst 0, 1) := by decide +kernel
theorem dX15_variable_48 : decode cX15_variable 48 = .ok (.iload_n 2, 1) := by decide +kernel
theorem dX15_variable_49 : decode cX15_variable 49 = .ok (.invokevirtual 693, 3) := by decide +kernel
theorem dX15_variable_52 : decode cX15_variable 52 = .ok (.iload_n 3, 1) := by decide +kernel
theorem dX15_variable_53 : decode cX15_variable 53 = .ok (.ifCond .eq 50, 3) := by decide +kernel
theorem dX15_variable_56 : decode cX15_variable 56 = .ok (.aload_n 0, 1) := by decide +kernel
theorem dX15_variable_57 : decode cX15_variable 57 = .ok (.dup, 1) := by decide +kernel
theorem dX15_variable_58 : decode cX15_variable 58 = .ok (.getfield 649, 3) := by decide +kernel
theorem dX15_variable_61 : decode cX15_variable 61 = .ok (.iconst 1, 1) := by decide +kernel
theorem dX15_variable_62 : decode cX15_variable 62 = .ok (.isub, 1) := by decide +kernel
theorem dX15_variable_63 : decode cX15_variable 63 = .ok (.putfield 649, 3) := by decide +kernel
theorem dX15_variable_66 : decode cX15_variable 66 = .ok (.iconst 0, 1) := by decide +kernel
theorem dX15_variable_67 : decode cX15_variable 67 = .ok (.istore 5, 2) := by decide +kernel
theorem dX15_variable_69 : decode cX15_variable 69 = .ok (.iload 5, 2) := by decide +kernel
theorem dX15_variable_71 : decode cX15_variable 71 = .ok (.iload_n 2, 1) := by decide +kernel
theorem dX15_variable_72 : decode cX15_variable 72 = .ok (.if_icmp .ge 31, 3) := by decide +kernel
theorem dX15_variable_75 : decode cX15_variable 75 = .ok (.aload_n 0, 1) := by decide +kernel
theorem dX15_variable_76 : decode cX15_variable 76 = .ok (.getfield 167, 3) := by decide +kernel
theorem dX15_variable_79 : decode cX15_variable 79 = .ok (.iload 5, 2) := by decide +kernel
theorem dX15_variable_81 : decode cX15_variable 81 = .ok (.aload_n 0, 1) := by decide +kernel
theorem dX15_variable_82 : decode cX15_variable 82 = .ok (.getfield 158, 3) := by decide +kernel
theorem dX15_variable_85 : decode cX15_variable 85 = .ok (.bipush 32, 2) := by decide +kernel
theorem dX15_variable_87 : decode cX15_variable 87 = .ok (.aload_n 0, 1) := by decide +kernel
theorem dX15_variable_88 : decode cX15_variable 88 = .ok (.getfield 649, 3) := by decide +kernel
theorem dX15_variable_91 : decode cX15_variable 91 = .ok (.imul, 1) := by decide +kernel
theorem dX15_variable_92 : decode cX15_variable 92 = .ok (.iload 5, 2) := by decide +kernel
theorem dX15_variable_94 : decode cX15_variable 94 = .ok (.iadd, 1) := by decide +kernel
theorem dX15_variable_95 : decode cX15_variable 95 = .ok (.iaload, 1) := by decide +kernel
theorem dX15_variable_96 : decode cX15_variable 96 = .ok (.iastore, 1) := by decide +kernel
theorem dX15_variable_97 : decode cX15_variable 97 = .ok (.iinc 5 1, 3) := by decide +kernel
theorem dX15_variable_100 : decode cX15_variable 100 = .ok (.goto (-31), 3) := by decide +kernel
theorem dX15_variable_103 : decode cX15_variable 103 = .ok (.aload_n 0, 1) := by decide +kernel
theorem dX15_variable_104 : decode cX15_variable 104 = .ok (.getfield 191, 3) := by decide +kernel
theorem dX15_variable_107 : decode cX15_variable 107 = .ok (.aload_n 0, 1) := by decide +kernel
theorem dX15_variable_108 : decode cX15_variable 108 = .ok (.getfield 675, 3) := by decide +kernel
theorem dX15_variable_111 : decode cX15_variable 111 = .ok (.aload_n 0, 1) := by decide +kernel
theorem dX15_variable_112 : decode cX15_variable 112 = .ok (.getfield 56, 3) := by decide +kernel
theorem dX15_variable_115 : decode cX15_variable 115 = .ok (.iload_n 1, 1) := by decide +kernel
theorem dX15_variable_116 : decode cX15_variable 116 = .ok (.iaload, 1) := by decide +kernel
theorem dX15_variable_117 : decode cX15_variable 117 = .ok (.iastore, 1) := by decide +kernel
theorem dX15_variable_118 : decode cX15_variable 118 = .ok (.aload_n 0, 1) := by decide +kernel
theorem dX15_variable_119 : decode cX15_variable 119 = .ok (.getfield 194, 3) := by decide +kernel
theorem dX15_variable_122 : decode cX15_variable 122 = .ok (.aload_n 0, 1) := by decide +kernel
theorem dX15_variable_123 : decode cX15_variable 123 = .ok (.getfield 675, 3) := by decide +kernel
theorem dX15_variable_126 : decode cX15_variable 126 = .ok (.iload 4, 2) := by decide +kernel
theorem dX15_variable_128 : decode cX15_variable 128 = .ok (.ifCond .ne 7, 3) := by decide +kernel
theorem dX15_variable_131 : decode cX15_variable 131 = .ok (.iconst 1, 1) := by decide +kernel
theorem dX15_variable_132 : decode cX15_variable 132 = .ok (.goto 5, 3) := by decide +kernel
theorem dX15_variable_135 : decode cX15_variable 135 = .ok (.iload 4, 2) := by decide +kernel
theorem dX15_variable_137 : decode cX15_variable 137 = .ok (.iastore, 1) := by decide +kernel
theorem dX15_variable_138 : decode cX15_variable 138 = .ok (.aload_n 0, 1) := by decide +kernel
theorem dX15_variable_139 : decode cX15_variable 139 = .ok (.getfield 197, 3) := by decide +kernel
theorem dX15_variable_142 : decode cX15_variable 142 = .ok (.aload_n 0, 1) := by decide +kernel
theorem dX15_variable_143 : decode cX15_variable 143 = .ok (.getfield 675, 3) := by decide +kernel
theorem dX15_variable_146 : decode cX15_variable 146 = .ok (.iload_n 2, 1) := by decide +kernel
theorem dX15_variable_147 : decode cX15_variable 147 = .ok (.iastore, 1) := by decide +kernel
theorem dX15_variable_148 : decode cX15_variable 148 = .ok (.iconst 0, 1) := by decide +kernel
theorem dX15_variable_149 : decode cX15_variable 149 = .ok (.istore 5, 2) := by decide +kernel
theorem dX15_variable_151 : decode cX15_variable 151 = .ok (.iload 5, 2) := by decide +kernel
theorem dX15_variable_153 : decode cX15_variable 153 = .ok (.aload_n 0, 1) := by decide +kernel
theorem dX15_variable_154 : decode cX15_variable 154 = .ok (.getfield 194, 3) := by decide +kernel
theorem dX15_variable_157 : decode cX15_variable 157 = .ok (.aload_n 0, 1) := by decide +kernel
theorem dX15_variable_158 : decode cX15_variable 158 = .ok (.getfield 675, 3) := by decide +kernel
theorem dX15_variable_161 : decode cX15_variable 161 = .ok (.iaload, 1) := by decide +kernel
theorem dX15_variable_162 : decode cX15_variable 162 = .ok (.if_icmp .ge 51, 3) := by decide +kernel
theorem dX15_variable_165 : decode cX15_variable 165 = .ok (.iconst 0, 1) := by decide +kernel
theorem dX15_variable_166 : decode cX15_variable 166 = .ok (.istore 6, 2) := by decide +kernel
theorem dX15_variable_168 : decode cX15_variable 168 = .ok (.iload 6, 2) := by decide +kernel
theorem dX15_variable_170 : decode cX15_variable 170 = .ok (.iload_n 2, 1) := by decide +kernel
theorem dX15_variable_171 : decode cX15_variable 171 = .ok (.if_icmp .ge 36, 3) := by decide +kernel
theorem dX15_variable_174 : decode cX15_variable 174 = .ok (.aload_n 0, 1) := by decide +kernel
theorem dX15_variable_175 : decode cX15_variable 175 = .ok (.getfield 188, 3) := by decide +kernel
theorem dX15_variable_178 : decode cX15_variable 178 = .ok (.bipush 32, 2) := by decide +kernel
theorem dX15_variable_180 : decode cX15_variable 180 = .ok (.aload_n 0, 1) := by decide +kernel
theorem dX15_variable_181 : decode cX15_variable 181 = .ok (.getfield 56, 3) := by decide +kernel
theorem dX15_variable_184 : decode cX15_variable 184 = .ok (.iload_n 1, 1) := by decide +kernel
theorem dX15_variable_185 : decode cX15_variable 185 = .ok (.iaload, 1) := by decide +kernel
theorem dX15_variable_186 : decode cX15_variable 186 = .ok (.iload 5, 2) := by decide +kernel
theorem dX15_variable_188 : decode cX15_variable 188 = .ok (.iadd, 1) := by decide +kernel
theorem dX15_variable_189 : decode cX15_variable 189 = .ok (.imul, 1) := by decide +kernel
theorem dX15_variable_190 : decode cX15_variable 190 = .ok (.iload 6, 2) := by decide +kernel
theorem dX15_variable_192 : decode cX15_variable 192 = .ok (.iadd, 1) := by decide +kernel
theorem dX15_variable_193 : decode cX15_variable 193 = .ok (.aload_n 0, 1) := by decide +kernel
theorem dX15_variable_194 : decode cX15_variable 194 = .ok (.getfield 167, 3) := by decide +kernel
theorem dX15_variable_197 : decode cX15_variable 197 = .ok (.iload 6, 2) := by decide +kernel
theorem dX15_variable_199 : decode cX15_variable 199 = .ok (.iaload, 1) := by decide +kernel
theorem dX15_variable_200 : decode cX15_variable 200 = .ok (.iastore, 1) := by decide +kernel
theorem dX15_variable_201 : decode cX15_variable 201 = .ok (.iinc 6 1, 3) := by decide +kernel
theorem dX15_variable_204 : decode cX15_variable 204 = .ok (.goto (-36), 3) := by decide +kernel
theorem dX15_variable_207 : decode cX15_variable 207 = .ok (.iinc 5 1, 3) := by decide +kernel
theorem dX15_variable_210 : decode cX15_variable 210 = .ok (.goto (-59), 3) := by decide +kernel
theorem dX15_variable_213 : decode cX15_variable 213 = .ok (.aload_n 0, 1) := by decide +kernel
theorem dX15_variable_214 : decode cX15_variable 214 = .ok (.dup, 1) := by decide +kernel
theorem dX15_variable_215 : decode cX15_variable 215 = .ok (.getfield 675, 3) := by decide +kernel
theorem dX15_variable_218 : decode cX15_variable 218 = .ok (.iconst 1, 1) := by decide +kernel
theorem dX15_variable_219 : decode cX15_variable 219 = .ok (.iadd, 1) := by decide +kernel
theorem dX15_variable_220 : decode cX15_variable 220 = .ok (.putfield 675, 3) := by decide +kernel
theorem dX15_variable_223 : decode cX15_variable 223 = .ok (.return_, 1) := by decide +kernel
theorem dX15_setElement_0 : decode cX15_setElement 0 = .ok (.aload_n 0, 1) := by decide +kernel
theorem dX15_setElement_1 : decode cX15_setElement 1 = .ok (.aload_n 0, 1) := by decide +kernel
theorem dX15_setElement_2 : decode cX15_setElement 2 = .ok (.getfield 105, 3) := by decide +kernel
theorem dX15_setElement_5 : decode cX15_setElement 5 = .ok (.iload_n 1, 1) := by decide +kernel
theorem dX15_setElement_6 : decode cX15_setElement 6 = .ok (.iaload, 1) := by decide +kernel
theorem dX15_setElement_7 : decode cX15_setElement 7 = .ok (.invokevirtual 666, 3) := by decide +kernel
theorem dX15_setElement_10 : decode cX15_setElement 10 = .ok (.istore_n 2, 1) := by decide +kernel
theorem dX15_setElement_11 : decode cX15_setElement 11 = .ok (.aload_n 0, 1) := by decide +kernel
theorem dX15_setElement_12 : decode cX15_setElement 12 = .ok (.getfield 649, 3) := by decide +kernel
theorem dX15_setElement_15 : decode cX15_setElement 15 = .ok (.iconst 1, 1) := by decide +kernel
theorem dX15_setElement_16 : decode cX15_setElement 16 = .ok (.isub, 1) := by decide +kernel
theorem dX15_setElement_17 : decode cX15_setElement 17 = .ok (.istore_n 3, 1) := by decide +kernel
theorem dX15_setElement_18 : decode cX15_setElement 18 = .ok (.aload_n 0, 1) := by decide +kernel
theorem dX15_setElement_19 : decode cX15_setElement 19 = .ok (.getfield 111, 3) := by decide +kernel
theorem dX15_setElement_22 : decode cX15_setElement 22 = .ok (.iload_n 1, 1) := by decide +kernel
theorem dX15_setElement_23 : decode cX15_setElement 23 = .ok (.baload, 1) := by decide +kernel
theorem dX15_setElement_24 : decode cX15_setElement 24 = .ok (.ifCond .eq 74, 3) := by decide +kernel
theorem dX15_setElement_27 : decode cX15_setElement 27 = .ok (.aload_n 0, 1) := by decide +kernel
theorem dX15_setElement_28 : decode cX15_setElement 28 = .ok (.aload_n 0, 1) := by decide +kernel
theorem dX15_setElement_29 : decode cX15_setElement 29 = .ok (.getfield 649, 3) := by decide +kernel
theorem dX15_setElement_32 : decode cX15_setElement 32 = .ok (.iconst 2, 1) := by decide +kernel
theorem dX15_setElement_33 : decode cX15_setElement 33 = .ok (.isub, 1) := by decide +kernel
theorem dX15_setElement_34 : decode cX15_setElement 34 = .ok (.invokevirtual 712, 3) := by decide +kernel
theorem dX15_setElement_37 : decode cX15_setElement 37 = .ok (.lstore 4, 2) := by decide +kernel
theorem dX15_setElement_39 : decode cX15_setElement 39 = .ok (.iconst 0, 1) := by decide +kernel
theorem dX15_setElement_40 : decode cX15_setElement 40 = .ok (.istore 6, 2) := by decide +kernel
theorem dX15_setElement_42 : decode cX15_setElement 42 = .ok (.iload 6, 2) := by decide +kernel
theorem dX15_setElement_44 : decode cX15_setElement 44 = .ok (.iload_n 2, 1) := by decide +kernel
theorem dX15_setElement_45 : decode cX15_setElement 45 = .ok (.if_icmp .ge 42, 3) := by decide +kernel
theorem dX15_setElement_48 : decode cX15_setElement 48 = .ok (.aload_n 0, 1) := by decide +kernel
theorem dX15_setElement_49 : decode cX15_setElement 49 = .ok (.getfield 188, 3) := by decide +kernel
theorem dX15_setElement_52 : decode cX15_setElement 52 = .ok (.bipush 32, 2) := by decide +kernel
theorem dX15_setElement_54 : decode cX15_setElement 54 = .ok (.aload_n 0, 1) := by decide +kernel
theorem dX15_setElement_55 : decode cX15_setElement 55 = .ok (.getfield 99, 3) := by decide +kernel
theorem dX15_setElement_58 : decode cX15_setElement 58 = .ok (.iload_n 1, 1) := by decide +kernel
theorem dX15_setElement_59 : decode cX15_setElement 59 = .ok (.iaload, 1) := by decide +kernel
theorem dX15_setElement_60 : decode cX15_setElement 60 = .ok (.lload 4, 2) := by decide +kernel
theorem dX15_setElement_62 : decode cX15_setElement 62 = .ok (.l2i, 1) := by decide +kernel
theorem dX15_setElement_63 : decode cX15_setElement 63 = .ok (.iadd, 1) := by decide +kernel
theorem dX15_setElement_64 : decode cX15_setElement 64 = .ok (.imul, 1) := by decide +kernel
theorem dX15_setElement_65 : decode cX15_setElement 65 = .ok (.iload 6, 2) := by decide +kernel
theorem dX15_setElement_67 : decode cX15_setElement 67 = .ok (.iadd, 1) := by decide +kernel
theorem dX15_setElement_68 : decode cX15_setElement 68 = .ok (.aload_n 0, 1) := by decide +kernel
theorem dX15_setElement_69 : decode cX15_setElement 69 = .ok (.getfield 158, 3) := by decide +kernel
theorem dX15_setElement_72 : decode cX15_setElement 72 = .ok (.bipush 32, 2) := by decide +kernel
theorem dX15_setElement_74 : decode cX15_setElement 74 = .ok (.iload_n 3, 1) := by decide +kernel
theorem dX15_setElement_75 : decode cX15_setElement 75 = .ok (.imul, 1) := by decide +kernel
theorem dX15_setElement_76 : decode cX15_setElement 76 = .ok (.iload 6, 2) := by decide +kernel
theorem dX15_setElement_78 : decode cX15_setElement 78 = .ok (.iadd, 1) := by decide +kernel
theorem dX15_setElement_79 : decode cX15_setElement 79 = .ok (.iaload, 1) := by decide +kernel
theorem dX15_setElement_80 : decode cX15_setElement 80 = .ok (.iastore, 1) := by decide +kernel
theorem dX15_setElement_81 : decode cX15_setElement 81 = .ok (.iinc 6 1, 3) := by decide +kernel
theorem dX15_setElement_84 : decode cX15_setElement 84 = .ok (.goto (-42), 3) := by decide +kernel
theorem dX15_setElement_87 : decode cX15_setElement 87 = .ok (.aload_n 0, 1) := by decide +kernel
theorem dX15_setElement_88 : decode cX15_setElement 88 = .ok (.dup, 1) := by decide +kernel
theorem dX15_setElement_89 : decode cX15_setElement 89 = .ok (.getfield 649, 3) := by decide +kernel
theorem dX15_setElement_92 : decode cX15_setElement 92 = .ok (.iconst 2, 1) := by decide +kernel
theorem dX15_setElement_93 : decode cX15_setElement 93 = .ok (.isub, 1) := by decide +kernel
theorem dX15_setElement_94 : decode cX15_setElement 94 = .ok (.putfield 649, 3) := by decide +kernel
theorem dX15_setElement_97 : decode cX15_setElement 97 = .ok (.return_, 1) := by decide +kernel
theorem dX15_setElement_98 : decode cX15_setElement 98 = .ok (.iconst 0, 1) := by decide +kernel
theorem dX15_setElement_99 : decode cX15_setElement 99 = .ok (.istore 4, 2) := by decide +kernel
theorem dX15_setElement_101 : decode cX15_setElement 101 = .ok (.iload 4, 2) := by decide +kernel
theorem dX15_setElement_103 : decode cX15_setElement 103 = .ok (.aload_n 0, 1) := by decide +kernel
theorem dX15_setElement_104 : decode cX15_setElement 104 = .ok (.getfield 303, 3) := by decide +kernel
theorem dX15_setElement_107 : decode cX15_setElement 107 = .ok (.if_icmp .ge 33, 3) := by decide +kernel
theorem dX15_setElement_110 : decode cX15_setElement 110 = .ok (.aload_n 0, 1) := by decide +kernel
theorem dX15_setElement_111 : decode cX15_setElement 111 = .ok (.getfield 231, 3) := by decide +kernel
theorem dX15_setElement_114 : decode cX15_setElement 114 = .ok (.iload 4, 2) := by decide +kernel
theorem dX15_setElement_116 : decode cX15_setElement 116 = .ok (.aload_n 0, 1) := by decide +kernel
theorem dX15_setElement_117 : decode cX15_setElement 117 = .ok (.getfield 158, 3) := by decide +kernel
theorem dX15_setElement_120 : decode cX15_setElement 120 = .ok (.bipush 32, 2) := by decide +kernel
theorem dX15_setElement_122 : decode cX15_setElement 122 = .ok (.aload_n 0, 1) := by decide +kernel
theorem dX15_setElement_123 : decode cX15_setElement 123 = .ok (.getfield 649, 3) := by decide +kernel
theorem dX15_setElement_126 : decode cX15_setElement 126 = .ok (.iconst 2, 1) := by decide +kernel
theorem dX15_setElement_127 : decode cX15_setElement 127 = .ok (.isub, 1) := by decide +kernel
theorem dX15_setElement_128 : decode cX15_setElement 128 = .ok (.imul, 1) := by decide +kernel
theorem dX15_setElement_129 : decode cX15_setElement 129 = .ok (.iload 4, 2) := by decide +kernel
theorem dX15_setElement_131 : decode cX15_setElement 131 = .ok (.iadd, 1) := by decide +kernel
theorem dX15_setElement_132 : decode cX15_setElement 132 = .ok (.iaload, 1) := by decide +kernel
theorem dX15_setElement_133 : decode cX15_setElement 133 = .ok (.iastore, 1) := by decide +kernel
theorem dX15_setElement_134 : decode cX15_setElement 134 = .ok (.iinc 4 1, 3) := by decide +kernel
theorem dX15_setElement_137 : decode cX15_setElement 137 = .ok (.goto (-36), 3) := by decide +kernel
theorem dX15_setElement_140 : decode cX15_setElement 140 = .ok (.iconst 0, 1) := by decide +kernel
theorem dX15_setElement_141 : decode cX15_setElement 141 = .ok (.istore 4, 2) := by decide +kernel
theorem dX15_setElement_143 : decode cX15_setElement 143 = .ok (.iload 4, 2) := by decide +kernel
theorem dX15_setElement_145 : decode cX15_setElement 145 = .ok (.aload_n 0, 1) := by decide +kernel
theorem dX15_setElement_146 : decode cX15_setElement 146 = .ok (.getfield 102, 3) := by decide +kernel
theorem dX15_setElement_149 : decode cX15_setElement 149 = .ok (.iload_n 1, 1) := by decide +kernel
theorem dX15_setElement_150 : decode cX15_setElement 150 = .ok (.iaload, 1) := by decide +kernel
theorem dX15_setElement_151 : decode cX15_setElement 151 = .ok (.if_icmp .ge 81, 3) := by decide +kernel
theorem dX15_setElement_154 : decode cX15_setElement 154 = .ok (.aload_n 0, 1) := by decide +kernel
theorem dX15_setElement_155 : decode cX15_setElement 155 = .ok (.iload 4, 2) := by decide +kernel
theorem dX15_setElement_157 : decode cX15_setElement 157 = .ok (.invokevirtual 731, 3) := by decide +kernel
theorem dX15_setElement_160 : decode cX15_setElement 160 = .ok (.istore 5, 2) := by decide +kernel
theorem dX15_setElement_162 : decode cX15_setElement 162 = .ok (.iconst 0, 1) := by decide +kernel
theorem dX15_setElement_163 : decode cX15_setElement 163 = .ok (.istore 6, 2) := by decide +kernel
theorem dX15_setElement_165 : decode cX15_setElement 165 = .ok (.iload 6, 2) := by decide +kernel
theorem dX15_setElement_167 : decode cX15_setElement 167 = .ok (.iload_n 2, 1) := by decide +kernel
theorem dX15_setElement_168 : decode cX15_setElement 168 = .ok (.if_icmp .ge 58, 3) := by decide +kernel
theorem dX15_setElement_171 : decode cX15_setElement 171 = .ok (.bipush 32, 2) := by decide +kernel
theorem dX15_setElement_173 : decode cX15_setElement 173 = .ok (.aload_n 0, 1) := by decide +kernel
theorem dX15_setElement_174 : decode cX15_setElement 174 = .ok (.getfield 99, 3) := by decide +kernel
theorem dX15_setElement_177 : decode cX15_setElement 177 = .ok (.iload_n 1, 1) := by decide +kernel
theorem dX15_setElement_178 : decode cX15_setElement 178 = .ok (.iaload, 1) := by decide +kernel
theorem dX15_setElement_179 : decode cX15_setElement 179 = .ok (.iload 4, 2) := by decide +kernel
theorem dX15_setElement_181 : decode cX15_setElement 181 = .ok (.iadd, 1) := by decide +kernel
theorem dX15_setElement_182 : decode cX15_setElement 182 = .ok (.imul, 1) := by decide +kernel
theorem dX15_setElement_183 : decode cX15_setElement 183 = .ok (.iload 6, 2) := by decide +kernel
theorem dX15_setElement_185 : decode cX15_setElement 185 = .ok (.iadd, 1) := by decide +kernel
theorem dX15_setElement_186 : decode cX15_setElement 186 = .ok (.istore 7, 2) := by decide +kernel
theorem dX15_setElement_188 : decode cX15_setElement 188 = .ok (.aload_n 0, 1) := by decide +kernel
theorem dX15_setElement_189 : decode cX15_setElement 189 = .ok (.getfield 188, 3) := by decide +kernel
theorem dX15_setElement_192 : decode cX15_setElement 192 = .ok (.iload 7, 2) := by decide +kernel
theorem dX15_setElement_194 : decode cX15_setElement 194 = .ok (.aload_n 0, 1) := by decide +kernel
theorem dX15_setElement_195 : decode cX15_setElement 195 = .ok (.iload 5, 2) := by decide +kernel
theorem dX15_setElement_197 : decode cX15_setElement 197 = .ok (.aload_n 0, 1) := by decide +kernel
theorem dX15_setElement_198 : decode cX15_setElement 198 = .ok (.getfield 158, 3) := by decide +kernel
theorem dX15_setElement_201 : decode cX15_setElement 201 = .ok (.bipush 32, 2) := by decide +kernel
theorem dX15_setElement_203 : decode cX15_setElement 203 = .ok (.iload_n 3, 1) := by decide +kernel
theorem dX15_setElement_204 : decode cX15_setElement 204 = .ok (.imul, 1) := by decide +kernel
theorem dX15_setElement_205 : decode cX15_setElement 205 = .ok (.iload 6, 2) := by decide +kernel
theorem dX15_setElement_207 : decode cX15_setElement 207 = .ok (.iadd, 1) := by decide +kernel
theorem dX15_setElement_208 : decode cX15_setElement 208 = .ok (.iaload, 1) := by decide +kernel
theorem dX15_setElement_209 : decode cX15_setElement 209 = .ok (.aload_n 0, 1) := by decide +kernel
theorem dX15_setElement_210 : decode cX15_setElement 210 = .ok (.getfield 188, 3) := by decide +kernel
theorem dX15_setElement_213 : decode cX15_setElement 213 = .ok (.iload 7, 2) := by decide +kernel
theorem dX15_setElement_215 : decode cX15_setElement 215 = .ok (.iaload, 1) := by decide +kernel
theorem dX15_setElement_216 : decode cX15_setElement 216 = .ok (.invokevirtual 655, 3) := by decide +kernel
theorem dX15_setElement_219 : decode cX15_setElement 219 = .ok (.iastore, 1) := by decide +kernel
theorem dX15_setElement_220 : decode cX15_setElement 220 = .ok (.iinc 6 1, 3) := by decide +kernel
theorem dX15_setElement_223 : decode cX15_setElement 223 = .ok (.goto (-58), 3) := by decide +kernel
theorem dX15_setElement_226 : decode cX15_setElement 226 = .ok (.iinc 4 1, 3) := by decide +kernel
theorem dX15_setElement_229 : decode cX15_setElement 229 = .ok (.goto (-86), 3) := by decide +kernel
theorem dX15_setElement_232 : decode cX15_setElement 232 = .ok (.aload_n 0, 1) := by decide +kernel
theorem dX15_setElement_233 : decode cX15_setElement 233 = .ok (.dup, 1) := by decide +kernel
theorem dX15_setElement_234 : decode cX15_setElement 234 = .ok (.getfield 649, 3) := by decide +kernel
theorem dX15_setElement_237 : decode cX15_setElement 237 = .ok (.iconst 2, 1) := by decide +kernel
theorem dX15_setElement_238 : decode cX15_setElement 238 = .ok (.isub, 1) := by decide +kernel
theorem dX15_setElement_239 : decode cX15_setElement 239 = .ok (.putfield 649, 3) := by decide +kernel
theorem dX15_setElement_242 : decode cX15_setElement 242 = .ok (.return_, 1) := by decide +kernel
theorem dX15_keepVars_0 : decode cX15_keepVars 0 = .ok (.iconst 0, 1) := by decide +kernel
theorem dX15_keepVars_1 : decode cX15_keepVars 1 = .ok (.istore_n 3, 1) := by decide +kernel
theorem dX15_keepVars_2 : decode cX15_keepVars 2 = .ok (.iload_n 3, 1) := by decide +kernel
theorem dX15_keepVars_3 : decode cX15_keepVars 3 = .ok (.aload_n 0, 1) := by decide +kernel
theorem dX15_keepVars_4 : decode cX15_keepVars 4 = .ok (.getfield 675, 3) := by decide +kernel
theorem dX15_keepVars_7 : decode cX15_keepVars 7 = .ok (.if_icmp .ge 64, 3) := by decide +kernel
theorem dX15_keepVars_10 : decode cX15_keepVars 10 = .ok (.bipush 32, 2) := by decide +kernel
theorem dX15_keepVars_12 : decode cX15_keepVars 12 = .ok (.aload_n 0, 1) := by decide +kernel
theorem dX15_keepVars_13 : decode cX15_keepVars 13 = .ok (.getfield 191, 3) := by decide +kernel
theorem dX15_keepVars_16 : decode cX15_keepVars 16 = .ok (.iload_n 3, 1) := by decide +kernel
theorem dX15_keepVars_17 : decode cX15_keepVars 17 = .ok (.iaload, 1) := by decide +kernel
theorem dX15_keepVars_18 : decode cX15_keepVars 18 = .ok (.imul, 1) := by decide +kernel
theorem dX15_keepVars_19 : decode cX15_keepVars 19 = .ok (.istore 4, 2) := by decide +kernel
theorem dX15_keepVars_21 : decode cX15_keepVars 21 = .ok (.iload 4, 2) := by decide +kernel
theorem dX15_keepVars_23 : decode cX15_keepVars 23 = .ok (.bipush 32, 2) := by decide +kernel
theorem dX15_keepVars_25 : decode cX15_keepVars 25 = .ok (.aload_n 0, 1) := by decide +kernel
theorem dX15_keepVars_26 : decode cX15_keepVars 26 = .ok (.getfield 191, 3) := by decide +kernel
theorem dX15_keepVars_29 : decode cX15_keepVars 29 = .ok (.iload_n 3, 1) := by decide +kernel
theorem dX15_keepVars_30 : decode cX15_keepVars 30 = .ok (.iaload, 1) := by decide +kernel
theorem dX15_keepVars_31 : decode cX15_keepVars 31 = .ok (.aload_n 0, 1) := by decide +kernel
theorem dX15_keepVars_32 : decode cX15_keepVars 32 = .ok (.getfield 194, 3) := by decide +kernel
theorem dX15_keepVars_35 : decode cX15_keepVars 35 = .ok (.iload_n 3, 1) := by decide +kernel
theorem dX15_keepVars_36 : decode cX15_keepVars 36 = .ok (.iaload, 1) := by decide +kernel
theorem dX15_keepVars_37 : decode cX15_keepVars 37 = .ok (.iadd, 1) := by decide +kernel
theorem dX15_keepVars_38 : decode cX15_keepVars 38 = .ok (.imul, 1) := by decide +kernel
theorem dX15_keepVars_39 : decode cX15_keepVars 39 = .ok (.if_icmp .ge 26, 3) := by decide +kernel
theorem dX15_keepVars_42 : decode cX15_keepVars 42 = .ok (.aload_n 1, 1) := by decide +kernel
theorem dX15_keepVars_43 : decode cX15_keepVars 43 = .ok (.sipush 8192, 3) := by decide +kernel
theorem dX15_keepVars_46 : decode cX15_keepVars 46 = .ok (.iload_n 2, 1) := by decide +kernel
theorem dX15_keepVars_47 : decode cX15_keepVars 47 = .ok (.imul, 1) := by decide +kernel
theorem dX15_keepVars_48 : decode cX15_keepVars 48 = .ok (.iload 4, 2) := by decide +kernel
theorem dX15_keepVars_50 : decode cX15_keepVars 50 = .ok (.iadd, 1) := by decide +kernel
theorem dX15_keepVars_51 : decode cX15_keepVars 51 = .ok (.aload_n 0, 1) := by decide +kernel
theorem dX15_keepVars_52 : decode cX15_keepVars 52 = .ok (.getfield 188, 3) := by decide +kernel
theorem dX15_keepVars_55 : decode cX15_keepVars 55 = .ok (.iload 4, 2) := by decide +kernel
theorem dX15_keepVars_57 : decode cX15_keepVars 57 = .ok (.iaload, 1) := by decide +kernel
theorem dX15_keepVars_58 : decode cX15_keepVars 58 = .ok (.iastore, 1) := by decide +kernel
theorem dX15_keepVars_59 : decode cX15_keepVars 59 = .ok (.iinc 4 1, 3) := by decide +kernel
theorem dX15_keepVars_62 : decode cX15_keepVars 62 = .ok (.goto (-41), 3) := by decide +kernel
theorem dX15_keepVars_65 : decode cX15_keepVars 65 = .ok (.iinc 3 1, 3) := by decide +kernel
theorem dX15_keepVars_68 : decode cX15_keepVars 68 = .ok (.goto (-66), 3) := by decide +kernel
theorem dX15_keepVars_71 : decode cX15_keepVars 71 = .ok (.return_, 1) := by decide +kernel
theorem dX15_bringVars_0 : decode cX15_bringVars 0 = .ok (.iconst 0, 1) := by decide +kernel
theorem dX15_bringVars_1 : decode cX15_bringVars 1 = .ok (.istore_n 3, 1) := by decide +kernel
theorem dX15_bringVars_2 : decode cX15_bringVars 2 = .ok (.iload_n 3, 1) := by decide +kernel
theorem dX15_bringVars_3 : decode cX15_bringVars 3 = .ok (.aload_n 0, 1) := by decide +kernel
theorem dX15_bringVars_4 : decode cX15_bringVars 4 = .ok (.getfield 675, 3) := by decide +kernel
theorem dX15_bringVars_7 : decode cX15_bringVars 7 = .ok (.if_icmp .ge 64, 3) := by decide +kernel
theorem dX15_bringVars_10 : decode cX15_bringVars 10 = .ok (.bipush 32, 2) := by decide +kernel
theorem dX15_bringVars_12 : decode cX15_bringVars 12 = .ok (.aload_n 0, 1) := by decide +kernel
theorem dX15_bringVars_13 : decode cX15_bringVars 13 = .ok (.getfield 191, 3) := by decide +kernel
theorem dX15_bringVars_16 : decode cX15_bringVars 16 = .ok (.iload_n 3, 1) := by decide +kernel
theorem dX15_bringVars_17 : decode cX15_bringVars 17 = .ok (.iaload, 1) := by decide +kernel
theorem dX15_bringVars_18 : decode cX15_bringVars 18 = .ok (.imul, 1) := by decide +kernel
theorem dX15_bringVars_19 : decode cX15_bringVars 19 = .ok (.istore 4, 2) := by decide +kernel
theorem dX15_bringVars_21 : decode cX15_bringVars 21 = .ok (.iload 4, 2) := by decide +kernel
theorem dX15_bringVars_23 : decode cX15_bringVars 23 = .ok (.bipush 32, 2) := by decide +kernel
theorem dX15_bringVars_25 : decode cX15_bringVars 25 = .ok (.aload_n 0, 1) := by decide +kernel
theorem dX15_bringVars_26 : decode cX15_bringVars 26 = .ok (.getfield 191, 3) := by decide +kernel
theorem dX15_bringVars_29 : decode cX15_bringVars 29 = .ok (.iload_n 3, 1) := by decide +kernel
theorem dX15_bringVars_30 : decode cX15_bringVars 30 = .ok (.iaload, 1) := by decide +kernel
theorem dX15_bringVars_31 : decode cX15_bringVars 31 = .ok (.aload_n 0, 1) := by decide +kernel
theorem dX15_bringVars_32 : decode cX15_bringVars 32 = .ok (.getfield 194, 3) := by decide +kernel
theorem dX15_bringVars_35 : decode cX15_bringVars 35 = .ok (.iload_n 3, 1) := by decide +kernel
theorem dX15_bringVars_36 : decode cX15_bringVars 36 = .ok (.iaload, 1) := by decide +kernel
theorem dX15_bringVars_37 : decode cX15_bringVars 37 = .ok (.iadd, 1) := by decide +kernel
theorem dX15_bringVars_38 : decode cX15_bringVars 38 = .ok (.imul, 1) := by decide +kernel
theorem dX15_bringVars_39 : decode cX15_bringVars 39 = .ok (.if_icmp .ge 26, 3) := by decide +kernel
theorem dX15_bringVars_42 : decode cX15_bringVars 42 = .ok (.aload_n 0, 1) := by decide +kernel
theorem dX15_bringVars_43 : decode cX15_bringVars 43 = .ok (.getfield 188, 3) := by decide +kernel
theorem dX15_bringVars_46 : decode cX15_bringVars 46 = .ok (.iload 4, 2) := by decide +kernel
theorem dX15_bringVars_48 : decode cX15_bringVars 48 = .ok (.aload_n 1, 1) := by decide +kernel
theorem dX15_bringVars_49 : decode cX15_bringVars 49 = .ok (.sipush 8192, 3) := by decide +kernel
theorem dX15_bringVars_52 : decode cX15_bringVars 52 = .ok (.iload_n 2, 1) := by decide +kernel
theorem dX15_bringVars_53 : decode cX15_bringVars 53 = .ok (.imul, 1) := by decide +kernel
theorem dX15_bringVars_54 : decode cX15_bringVars 54 = .ok (.iload 4, 2) := by decide +kernel
theorem dX15_bringVars_56 : decode cX15_bringVars 56 = .ok (.iadd, 1) := by decide +kernel
theorem dX15_bringVars_57 : decode cX15_bringVars 57 = .ok (.iaload, 1) := by decide +kernel
theorem dX15_bringVars_58 : decode cX15_bringVars 58 = .ok (.iastore, 1) := by decide +kernel
theorem dX15_bringVars_59 : decode cX15_bringVars 59 = .ok (.iinc 4 1, 3) := by decide +kernel
theorem dX15_bringVars_62 : decode cX15_bringVars 62 = .ok (.goto (-41), 3) := by decide +kernel
theorem dX15_bringVars_65 : decode cX15_bringVars 65 = .ok (.iinc 3 1, 3) := by decide +kernel
theorem dX15_bringVars_68 : decode cX15_bringVars 68 = .ok (.goto (-66), 3) := by decide +kernel
theorem dX15_bringVars_71 : decode cX15_bringVars 71 = .ok (.return_, 1) := by decide +kernel
theorem dX15_endOfIf_0 : decode cX15_endOfIf 0 = .ok (.aload_n 0, 1) := by decide +kernel
theorem dX15_endOfIf_1 : decode cX15_endOfIf 1 = .ok (.dup, 1) := by decide +kernel
theorem dX15_endOfIf_2 : decode cX15_endOfIf 2 = .ok (.getfield 678, 3) := by decide +kernel
theorem dX15_endOfIf_5 : decode cX15_endOfIf 5 = .ok (.iconst 1, 1) := by decide +kernel
theorem dX15_endOfIf_6 : decode cX15_endOfIf 6 = .ok (.isub, 1) := by decide +kernel
theorem dX15_endOfIf_7 : decode cX15_endOfIf 7 = .ok (.putfield 678, 3) := by decide +kernel
theorem dX15_endOfIf_10 : decode cX15_endOfIf 10 = .ok (.aload_n 0, 1) := by decide +kernel
theorem dX15_endOfIf_11 : decode cX15_endOfIf 11 = .ok (.getfield 678, 3) := by decide +kernel
theorem dX15_endOfIf_14 : decode cX15_endOfIf 14 = .ok (.istore_n 1, 1) := by decide +kernel
theorem dX15_endOfIf_15 : decode cX15_endOfIf 15 = .ok (.aload_n 0, 1) := by decide +kernel
theorem dX15_endOfIf_16 : decode cX15_endOfIf 16 = .ok (.aload_n 0, 1) := by decide +kernel
theorem dX15_endOfIf_17 : decode cX15_endOfIf 17 = .ok (.getfield 203, 3) := by decide +kernel
theorem dX15_endOfIf_20 : decode cX15_endOfIf 20 = .ok (.iload_n 1, 1) := by decide +kernel
theorem dX15_endOfIf_21 : decode cX15_endOfIf 21 = .ok (.iaload, 1) := by decide +kernel
theorem dX15_endOfIf_22 : decode cX15_endOfIf 22 = .ok (.putfield 675, 3) := by decide +kernel
theorem dX15_endOfIf_25 : decode cX15_endOfIf 25 = .ok (.aload_n 0, 1) := by decide +kernel
theorem dX15_endOfIf_26 : decode cX15_endOfIf 26 = .ok (.getfield 206, 3) := by decide +kernel
theorem dX15_endOfIf_29 : decode cX15_endOfIf 29 = .ok (.iload_n 1, 1) := by decide +kernel
theorem dX15_endOfIf_30 : decode cX15_endOfIf 30 = .ok (.baload, 1) := by decide +kernel
theorem dX15_endOfIf_31 : decode cX15_endOfIf 31 = .ok (.ifCond .ne 21, 3) := by decide +kernel
theorem dX15_endOfIf_34 : decode cX15_endOfIf 34 = .ok (.aload_n 0, 1) := by decide +kernel
theorem dX15_endOfIf_35 : decode cX15_endOfIf 35 = .ok (.aload_n 0, 1) := by decide +kernel
theorem dX15_endOfIf_36 : decode cX15_endOfIf 36 = .ok (.getfield 213, 3) := by decide +kernel
theorem dX15_endOfIf_39 : decode cX15_endOfIf 39 = .ok (.iload_n 1, 1) := by decide +kernel
theorem dX15_endOfIf_40 : decode cX15_endOfIf 40 = .ok (.invokevirtual 746, 3) := by decide +kernel
theorem dX15_endOfIf_43 : decode cX15_endOfIf 43 = .ok (.aload_n 0, 1) := by decide +kernel
theorem dX15_endOfIf_44 : decode cX15_endOfIf 44 = .ok (.aload_n 0, 1) := by decide +kernel
theorem dX15_endOfIf_45 : decode cX15_endOfIf 45 = .ok (.getfield 210, 3) := by decide +kernel
theorem dX15_endOfIf_48 : decode cX15_endOfIf 48 = .ok (.iload_n 1, 1) := by decide +kernel
theorem dX15_endOfIf_49 : decode cX15_endOfIf 49 = .ok (.invokevirtual 750, 3) := by decide +kernel
theorem dX15_endOfIf_52 : decode cX15_endOfIf 52 = .ok (.iconst 0, 1) := by decide +kernel
theorem dX15_endOfIf_53 : decode cX15_endOfIf 53 = .ok (.istore_n 2, 1) := by decide +kernel
theorem dX15_endOfIf_54 : decode cX15_endOfIf 54 = .ok (.iload_n 2, 1) := by decide +kernel
theorem dX15_endOfIf_55 : decode cX15_endOfIf 55 = .ok (.aload_n 0, 1) := by decide +kernel
theorem dX15_endOfIf_56 : decode cX15_endOfIf 56 = .ok (.getfield 675, 3) := by decide +kernel
theorem dX15_endOfIf_59 : decode cX15_endOfIf 59 = .ok (.if_icmp .ge 111, 3) := by decide +kernel
theorem dX15_endOfIf_62 : decode cX15_endOfIf 62 = .ok (.aload_n 0, 1) := by decide +kernel
theorem dX15_endOfIf_63 : decode cX15_endOfIf 63 = .ok (.getfield 191, 3) := by decide +kernel
theorem dX15_endOfIf_66 : decode cX15_endOfIf 66 = .ok (.iload_n 2, 1) := by decide +kernel
theorem dX15_endOfIf_67 : decode cX15_endOfIf 67 = .ok (.iaload, 1) := by decide +kernel
theorem dX15_endOfIf_68 : decode cX15_endOfIf 68 = .ok (.istore_n 3, 1) := by decide +kernel
theorem dX15_endOfIf_69 : decode cX15_endOfIf 69 = .ok (.iload_n 3, 1) := by decide +kernel
theorem dX15_endOfIf_70 : decode cX15_endOfIf 70 = .ok (.aload_n 0, 1) := by decide +kernel
theorem dX15_endOfIf_71 : decode cX15_endOfIf 71 = .ok (.getfield 191, 3) := by decide +kernel
theorem dX15_endOfIf_74 : decode cX15_endOfIf 74 = .ok (.iload_n 2, 1) := by decide +kernel
theorem dX15_endOfIf_75 : decode cX15_endOfIf 75 = .ok (.iaload, 1) := by decide +kernel
theorem dX15_endOfIf_76 : decode cX15_endOfIf 76 = .ok (.aload_n 0, 1) := by decide +kernel
theorem dX15_endOfIf_77 : decode cX15_endOfIf 77 = .ok (.getfield 194, 3) := by decide +kernel
theorem dX15_endOfIf_80 : decode cX15_endOfIf 80 = .ok (.iload_n 2, 1) := by decide +kernel
theorem dX15_endOfIf_81 : decode cX15_endOfIf 81 = .ok (.iaload, 1) := by decide +kernel
theorem dX15_endOfIf_82 : decode cX15_endOfIf 82 = .ok (.iadd, 1) := by decide +kernel
theorem dX15_endOfIf_83 : decode cX15_endOfIf 83 = .ok (.if_icmp .ge 81, 3) := by decide +kernel
theorem dX15_endOfIf_86 : decode cX15_endOfIf 86 = .ok (.iconst 0, 1) := by decide +kernel
theorem dX15_endOfIf_87 : decode cX15_endOfIf 87 = .ok (.istore 4, 2) := by decide +kernel
theorem dX15_endOfIf_89 : decode cX15_endOfIf 89 = .ok (.iload 4, 2) := by decide +kernel
theorem dX15_endOfIf_91 : decode cX15_endOfIf 91 = .ok (.aload_n 0, 1) := by decide +kernel
theorem dX15_endOfIf_92 : decode cX15_endOfIf 92 = .ok (.getfield 197, 3) := by decide +kernel
theorem dX15_endOfIf_95 : decode cX15_endOfIf 95 = .ok (.iload_n 2, 1) := by decide +kernel
theorem dX15_endOfIf_96 : decode cX15_endOfIf 96 = .ok (.iaload, 1) := by decide +kernel
theorem dX15_endOfIf_97 : decode cX15_endOfIf 97 = .ok (.if_icmp .ge 61, 3) := by decide +kernel
theorem dX15_endOfIf_100 : decode cX15_endOfIf 100 = .ok (.aload_n 0, 1) := by decide +kernel
theorem dX15_endOfIf_101 : decode cX15_endOfIf 101 = .ok (.getfield 188, 3) := by decide +kernel
theorem dX15_endOfIf_104 : decode cX15_endOfIf 104 = .ok (.bipush 32, 2) := by decide +kernel
theorem dX15_endOfIf_106 : decode cX15_endOfIf 106 = .ok (.iload_n 3, 1) := by decide +kernel
theorem dX15_endOfIf_107 : decode cX15_endOfIf 107 = .ok (.imul, 1) := by decide +kernel
theorem dX15_endOfIf_108 : decode cX15_endOfIf 108 = .ok (.iload 4, 2) := by decide +kernel
theorem dX15_endOfIf_110 : decode cX15_endOfIf 110 = .ok (.iadd, 1) := by decide +kernel
theorem dX15_endOfIf_111 : decode cX15_endOfIf 111 = .ok (.aload_n 0, 1) := by decide +kernel
theorem dX15_endOfIf_112 : decode cX15_endOfIf 112 = .ok (.aload_n 0, 1) := by decide +kernel
theorem dX15_endOfIf_113 : decode cX15_endOfIf 113 = .ok (.getfield 200, 3) := by decide +kernel
theorem dX15_endOfIf_116 : decode cX15_endOfIf 116 = .ok (.iload_n 1, 1) := by decide +kernel
theorem dX15_endOfIf_117 : decode cX15_endOfIf 117 = .ok (.iaload, 1) := by decide +kernel
theorem dX15_endOfIf_118 : decode cX15_endOfIf 118 = .ok (.aload_n 0, 1) := by decide +kernel
theorem dX15_endOfIf_119 : decode cX15_endOfIf 119 = .ok (.getfield 213, 3) := by decide +kernel
theorem dX15_endOfIf_122 : decode cX15_endOfIf 122 = .ok (.sipush 8192, 3) := by decide +kernel
theorem dX15_endOfIf_125 : decode cX15_endOfIf 125 = .ok (.iload_n 1, 1) := by decide +kernel
theorem dX15_endOfIf_126 : decode cX15_endOfIf 126 = .ok (.imul, 1) := by decide +kernel
theorem dX15_endOfIf_127 : decode cX15_endOfIf 127 = .ok (.bipush 32, 2) := by decide +kernel
theorem dX15_endOfIf_129 : decode cX15_endOfIf 129 = .ok (.iload_n 3, 1) := by decide +kernel
theorem dX15_endOfIf_130 : decode cX15_endOfIf 130 = .ok (.imul, 1) := by decide +kernel
theorem dX15_endOfIf_131 : decode cX15_endOfIf 131 = .ok (.iadd, 1) := by decide +kernel
theorem dX15_endOfIf_132 : decode cX15_endOfIf 132 = .ok (.iload 4, 2) := by decide +kernel
theorem dX15_endOfIf_134 : decode cX15_endOfIf 134 = .ok (.iadd, 1) := by decide +kernel
theorem dX15_endOfIf_135 : decode cX15_endOfIf 135 = .ok (.iaload, 1) := by decide +kernel
theorem dX15_endOfIf_136 : decode cX15_endOfIf 136 = .ok (.aload_n 0, 1) := by decide +kernel
theorem dX15_endOfIf_137 : decode cX15_endOfIf 137 = .ok (.getfield 188, 3) := by decide +kernel
theorem dX15_endOfIf_140 : decode cX15_endOfIf 140 = .ok (.bipush 32, 2) := by decide +kernel
theorem dX15_endOfIf_142 : decode cX15_endOfIf 142 = .ok (.iload_n 3, 1) := by decide +kernel
theorem dX15_endOfIf_143 : decode cX15_endOfIf 143 = .ok (.imul, 1) := by decide +kernel
theorem dX15_endOfIf_144 : decode cX15_endOfIf 144 = .ok (.iload 4, 2) := by decide +kernel
theorem dX15_endOfIf_146 : decode cX15_endOfIf 146 = .ok (.iadd, 1) := by decide +kernel
theorem dX15_endOfIf_147 : decode cX15_endOfIf 147 = .ok (.iaload, 1) := by decide +kernel
theorem dX15_endOfIf_148 : decode cX15_endOfIf 148 = .ok (.invokevirtual 655, 3) := by decide +kernel
theorem dX15_endOfIf_151 : decode cX15_endOfIf 151 = .ok (.iastore, 1) := by decide +kernel
theorem dX15_endOfIf_152 : decode cX15_endOfIf 152 = .ok (.iinc 4 1, 3) := by decide +kernel
theorem dX15_endOfIf_155 : decode cX15_endOfIf 155 = .ok (.goto (-66), 3) := by decide +kernel
theorem dX15_endOfIf_158 : decode cX15_endOfIf 158 = .ok (.iinc 3 1, 3) := by decide +kernel
theorem dX15_endOfIf_161 : decode cX15_endOfIf 161 = .ok (.goto (-92), 3) := by decide +kernel
theorem dX15_endOfIf_164 : decode cX15_endOfIf 164 = .ok (.iinc 2 1, 3) := by decide +kernel
theorem dX15_endOfIf_167 : decode cX15_endOfIf 167 = .ok (.goto (-113), 3) := by decide +kernel
theorem dX15_endOfIf_170 : decode cX15_endOfIf 170 = .ok (.return_, 1) := by decide +kernel
theorem dX15_levels_0 : decode cX15_levels 0 = .ok (.iconst 0, 1) := by decide +kernel
theorem dX15_levels_1 : decode cX15_levels 1 = .ok (.istore_n 1, 1) := by decide +kernel
theorem dX15_levels_2 : decode cX15_levels 2 = .ok (.iconst 1, 1) := by decide +kernel
theorem dX15_levels_3 : decode cX15_levels 3 = .ok (.istore_n 2, 1) := by decide +kernel
theorem dX15_levels_4 : decode cX15_levels 4 = .ok (.iload_n 2, 1) := by decide +kernel
theorem dX15_levels_5 : decode cX15_levels 5 = .ok (.aload_n 0, 1) := by decide +kernel
theorem dX15_levels_6 : decode cX15_levels 6 = .ok (.getfield 633, 3) := by decide +kernel
theorem dX15_levels_9 : decode cX15_levels 9 = .ok (.if_icmp .gt 62, 3) := by decide +kernel
theorem dX15_levels_12 : decode cX15_levels 12 = .ok (.aload_n 0, 1) := by decide +kernel
theorem dX15_levels_13 : decode cX15_levels 13 = .ok (.getfield 259, 3) := by decide +kernel
theorem dX15_levels_16 : decode cX15_levels 16 = .ok (.iload_n 2, 1) := by decide +kernel
theorem dX15_levels_17 : decode cX15_levels 17 = .ok (.iload_n 1, 1) := by decide +kernel
theorem dX15_levels_18 : decode cX15_levels 18 = .ok (.iastore, 1) := by decide +kernel
theorem dX15_levels_19 : decode cX15_levels 19 = .ok (.iconst 0, 1) := by decide +kernel
theorem dX15_levels_20 : decode cX15_levels 20 = .ok (.istore_n 3, 1) := by decide +kernel
theorem dX15_levels_21 : decode cX15_levels 21 = .ok (.iload_n 3, 1) := by decide +kernel
theorem dX15_levels_22 : decode cX15_levels 22 = .ok (.aload_n 0, 1) := by decide +kernel
theorem dX15_levels_23 : decode cX15_levels 23 = .ok (.getfield 624, 3) := by decide +kernel
theorem dX15_levels_26 : decode cX15_levels 26 = .ok (.if_icmp .ge 39, 3) := by decide +kernel
theorem dX15_levels_29 : decode cX15_levels 29 = .ok (.aload_n 0, 1) := by decide +kernel
theorem dX15_levels_30 : decode cX15_levels 30 = .ok (.getfield 124, 3) := by decide +kernel
theorem dX15_levels_33 : decode cX15_levels 33 = .ok (.iload_n 3, 1) := by decide +kernel
theorem dX15_levels_34 : decode cX15_levels 34 = .ok (.iaload, 1) := by decide +kernel
theorem dX15_levels_35 : decode cX15_levels 35 = .ok (.iconst 1, 1) := by decide +kernel
theorem dX15_levels_36 : decode cX15_levels 36 = .ok (.if_icmp .ne 23, 3) := by decide +kernel
theorem dX15_levels_39 : decode cX15_levels 39 = .ok (.aload_n 0, 1) := by decide +kernel
theorem dX15_levels_40 : decode cX15_levels 40 = .ok (.getfield 127, 3) := by decide +kernel
