set_option maxRecDepth 100000
theorem dX1_init_0 : decode cX1_init 0 = .ok (.aload_n 0, 1) := by decide +kernel
theorem dX1_init_1 : decode cX1_init 1 = .ok (.invokespecial 1, 3) := by decide +kernel
theorem dX1_init_4 : decode cX1_init 4 = .ok (.aload_n 0, 1) := by decide +kernel
theorem dX1_init_5 : decode cX1_init 5 = .ok (.bipush 20, 2) := by decide +kernel
theorem dX1_init_7 : decode cX1_init 7 = .ok (.newarray .byte, 2) := by decide +kernel
theorem dX1_init_9 : decode cX1_init 9 = .ok (.putfield 9, 3) := by decide +kernel
theorem dX1_init_12 : decode cX1_init 12 = .ok (.aload_n 0, 1) := by decide +kernel
theorem dX1_init_13 : decode cX1_init 13 = .ok (.sipush 4000, 3) := by decide +kernel
theorem dX1_init_16 : decode cX1_init 16 = .ok (.newarray .byte, 2) := by decide +kernel
theorem dX1_init_18 : decode cX1_init 18 = .ok (.putfield 13, 3) := by decide +kernel
theorem dX1_init_21 : decode cX1_init 21 = .ok (.aload_n 0, 1) := by decide +kernel
theorem dX1_init_22 : decode cX1_init 22 = .ok (.new 16, 3) := by decide +kernel
theorem dX1_init_25 : decode cX1_init 25 = .ok (.dup, 1) := by decide +kernel
theorem dX1_init_26 : decode cX1_init 26 = .ok (.invokespecial 18, 3) := by decide +kernel
theorem dX1_init_29 : decode cX1_init 29 = .ok (.putfield 19, 3) := by decide +kernel
theorem dX1_init_32 : decode cX1_init 32 = .ok (.aload_n 0, 1) := by decide +kernel
theorem dX1_init_33 : decode cX1_init 33 = .ok (.new 23, 3) := by decide +kernel
theorem dX1_init_36 : decode cX1_init 36 = .ok (.dup, 1) := by decide +kernel
theorem dX1_init_37 : decode cX1_init 37 = .ok (.invokespecial 25, 3) := by decide +kernel
theorem dX1_init_40 : decode cX1_init 40 = .ok (.putfield 26, 3) := by decide +kernel
theorem dX1_init_43 : decode cX1_init 43 = .ok (.aload_n 0, 1) := by decide +kernel
theorem dX1_init_44 : decode cX1_init 44 = .ok (.new 30, 3) := by decide +kernel
theorem dX1_init_47 : decode cX1_init 47 = .ok (.dup, 1) := by decide +kernel
theorem dX1_init_48 : decode cX1_init 48 = .ok (.invokespecial 32, 3) := by decide +kernel
theorem dX1_init_51 : decode cX1_init 51 = .ok (.putfield 33, 3) := by decide +kernel
theorem dX1_init_54 : decode cX1_init 54 = .ok (.aload_n 0, 1) := by decide +kernel
theorem dX1_init_55 : decode cX1_init 55 = .ok (.new 37, 3) := by decide +kernel
theorem dX1_init_58 : decode cX1_init 58 = .ok (.dup, 1) := by decide +kernel
theorem dX1_init_59 : decode cX1_init 59 = .ok (.invokespecial 39, 3) := by decide +kernel
theorem dX1_init_62 : decode cX1_init 62 = .ok (.putfield 40, 3) := by decide +kernel
theorem dX1_init_65 : decode cX1_init 65 = .ok (.aload_n 0, 1) := by decide +kernel
theorem dX1_init_66 : decode cX1_init 66 = .ok (.new 44, 3) := by decide +kernel
theorem dX1_init_69 : decode cX1_init 69 = .ok (.dup, 1) := by decide +kernel
theorem dX1_init_70 : decode cX1_init 70 = .ok (.invokespecial 46, 3) := by decide +kernel
theorem dX1_init_73 : decode cX1_init 73 = .ok (.putfield 47, 3) := by decide +kernel
theorem dX1_init_76 : decode cX1_init 76 = .ok (.aload_n 0, 1) := by decide +kernel
theorem dX1_init_77 : decode cX1_init 77 = .ok (.sipush 256, 3) := by decide +kernel
theorem dX1_init_80 : decode cX1_init 80 = .ok (.newarray .int, 2) := by decide +kernel
theorem dX1_init_82 : decode cX1_init 82 = .ok (.putfield 51, 3) := by decide +kernel
theorem dX1_init_85 : decode cX1_init 85 = .ok (.aload_n 0, 1) := by decide +kernel
theorem dX1_init_86 : decode cX1_init 86 = .ok (.new 55, 3) := by decide +kernel
theorem dX1_init_89 : decode cX1_init 89 = .ok (.dup, 1) := by decide +kernel
theorem dX1_init_90 : decode cX1_init 90 = .ok (.sipush 8192, 3) := by decide +kernel
theorem dX1_init_93 : decode cX1_init 93 = .ok (.invokespecial 57, 3) := by decide +kernel
theorem dX1_init_96 : decode cX1_init 96 = .ok (.putfield 60, 3) := by decide +kernel
theorem dX1_init_99 : decode cX1_init 99 = .ok (.aload_n 0, 1) := by decide +kernel
theorem dX1_init_100 : decode cX1_init 100 = .ok (.new 55, 3) := by decide +kernel
theorem dX1_init_103 : decode cX1_init 103 = .ok (.dup, 1) := by decide +kernel
theorem dX1_init_104 : decode cX1_init 104 = .ok (.ldc 64, 2) := by decide +kernel
theorem dX1_init_106 : decode cX1_init 106 = .ok (.invokespecial 57, 3) := by decide +kernel
theorem dX1_init_109 : decode cX1_init 109 = .ok (.putfield 65, 3) := by decide +kernel
theorem dX1_init_112 : decode cX1_init 112 = .ok (.aload_n 0, 1) := by decide +kernel
theorem dX1_init_113 : decode cX1_init 113 = .ok (.iconst 2, 1) := by decide +kernel
theorem dX1_init_114 : decode cX1_init 114 = .ok (.iload_n 1, 1) := by decide +kernel
theorem dX1_init_115 : decode cX1_init 115 = .ok (.bipush 16, 2) := by decide +kernel
theorem dX1_init_117 : decode cX1_init 117 = .ok (.invokestatic 68, 3) := by decide +kernel
theorem dX1_init_120 : decode cX1_init 120 = .ok (.invokestatic 74, 3) := by decide +kernel
theorem dX1_init_123 : decode cX1_init 123 = .ok (.putfield 77, 3) := by decide +kernel
theorem dX1_init_126 : decode cX1_init 126 = .ok (.aload_n 0, 1) := by decide +kernel
theorem dX1_init_127 : decode cX1_init 127 = .ok (.iconst 1, 1) := by decide +kernel
theorem dX1_init_128 : decode cX1_init 128 = .ok (.iload_n 2, 1) := by decide +kernel
theorem dX1_init_129 : decode cX1_init 129 = .ok (.bipush 32, 2) := by decide +kernel
theorem dX1_init_131 : decode cX1_init 131 = .ok (.invokestatic 68, 3) := by decide +kernel
theorem dX1_init_134 : decode cX1_init 134 = .ok (.invokestatic 74, 3) := by decide +kernel
theorem dX1_init_137 : decode cX1_init 137 = .ok (.putfield 81, 3) := by decide +kernel
theorem dX1_init_140 : decode cX1_init 140 = .ok (.aload_n 0, 1) := by decide +kernel
theorem dX1_init_141 : decode cX1_init 141 = .ok (.new 84, 3) := by decide +kernel
theorem dX1_init_144 : decode cX1_init 144 = .ok (.dup, 1) := by decide +kernel
theorem dX1_init_145 : decode cX1_init 145 = .ok (.aload_n 0, 1) := by decide +kernel
theorem dX1_init_146 : decode cX1_init 146 = .ok (.getfield 77, 3) := by decide +kernel
theorem dX1_init_149 : decode cX1_init 149 = .ok (.aload_n 0, 1) := by decide +kernel
theorem dX1_init_150 : decode cX1_init 150 = .ok (.getfield 19, 3) := by decide +kernel
theorem dX1_init_153 : decode cX1_init 153 = .ok (.aload_n 0, 1) := by decide +kernel
theorem dX1_init_154 : decode cX1_init 154 = .ok (.getfield 26, 3) := by decide +kernel
theorem dX1_init_157 : decode cX1_init 157 = .ok (.aload_n 0, 1) := by decide +kernel
theorem dX1_init_158 : decode cX1_init 158 = .ok (.getfield 33, 3) := by decide +kernel
theorem dX1_init_161 : decode cX1_init 161 = .ok (.invokespecial 86, 3) := by decide +kernel
theorem dX1_init_164 : decode cX1_init 164 = .ok (.putfield 89, 3) := by decide +kernel
theorem dX1_init_167 : decode cX1_init 167 = .ok (.aload_n 0, 1) := by decide +kernel
theorem dX1_init_168 : decode cX1_init 168 = .ok (.new 93, 3) := by decide +kernel
theorem dX1_init_171 : decode cX1_init 171 = .ok (.dup, 1) := by decide +kernel
theorem dX1_init_172 : decode cX1_init 172 = .ok (.aload_n 0, 1) := by decide +kernel
theorem dX1_init_173 : decode cX1_init 173 = .ok (.getfield 81, 3) := by decide +kernel
theorem dX1_init_176 : decode cX1_init 176 = .ok (.aload_n 0, 1) := by decide +kernel
theorem dX1_init_177 : decode cX1_init 177 = .ok (.getfield 19, 3) := by decide +kernel
theorem dX1_init_180 : decode cX1_init 180 = .ok (.aload_n 0, 1) := by decide +kernel
theorem dX1_init_181 : decode cX1_init 181 = .ok (.getfield 33, 3) := by decide +kernel
theorem dX1_init_184 : decode cX1_init 184 = .ok (.invokespecial 95, 3) := by decide +kernel
theorem dX1_init_187 : decode cX1_init 187 = .ok (.putfield 98, 3) := by decide +kernel
theorem dX1_init_190 : decode cX1_init 190 = .ok (.aload_n 0, 1) := by decide +kernel
theorem dX1_init_191 : decode cX1_init 191 = .ok (.new 102, 3) := by decide +kernel
theorem dX1_init_194 : decode cX1_init 194 = .ok (.dup, 1) := by decide +kernel
theorem dX1_init_195 : decode cX1_init 195 = .ok (.aload_n 0, 1) := by decide +kernel
theorem dX1_init_196 : decode cX1_init 196 = .ok (.getfield 81, 3) := by decide +kernel
theorem dX1_init_199 : decode cX1_init 199 = .ok (.aload_n 0, 1) := by decide +kernel
theorem dX1_init_200 : decode cX1_init 200 = .ok (.getfield 19, 3) := by decide +kernel
theorem dX1_init_203 : decode cX1_init 203 = .ok (.aload_n 0, 1) := by decide +kernel
theorem dX1_init_204 : decode cX1_init 204 = .ok (.getfield 33, 3) := by decide +kernel
theorem dX1_init_207 : decode cX1_init 207 = .ok (.aload_n 0, 1) := by decide +kernel
theorem dX1_init_208 : decode cX1_init 208 = .ok (.getfield 40, 3) := by decide +kernel
theorem dX1_init_211 : decode cX1_init 211 = .ok (.invokespecial 104, 3) := by decide +kernel
theorem dX1_init_214 : decode cX1_init 214 = .ok (.putfield 107, 3) := by decide +kernel
theorem dX1_init_217 : decode cX1_init 217 = .ok (.aload_n 0, 1) := by decide +kernel
theorem dX1_init_218 : decode cX1_init 218 = .ok (.new 111, 3) := by decide +kernel
theorem dX1_init_221 : decode cX1_init 221 = .ok (.dup, 1) := by decide +kernel
theorem dX1_init_222 : decode cX1_init 222 = .ok (.aload_n 0, 1) := by decide +kernel
theorem dX1_init_223 : decode cX1_init 223 = .ok (.getfield 77, 3) := by decide +kernel
theorem dX1_init_226 : decode cX1_init 226 = .ok (.aload_n 0, 1) := by decide +kernel
theorem dX1_init_227 : decode cX1_init 227 = .ok (.getfield 81, 3) := by decide +kernel
theorem dX1_init_230 : decode cX1_init 230 = .ok (.aload_n 0, 1) := by decide +kernel
theorem dX1_init_231 : decode cX1_init 231 = .ok (.getfield 40, 3) := by decide +kernel
theorem dX1_init_234 : decode cX1_init 234 = .ok (.aload_n 0, 1) := by decide +kernel
theorem dX1_init_235 : decode cX1_init 235 = .ok (.getfield 107, 3) := by decide +kernel
theorem dX1_init_238 : decode cX1_init 238 = .ok (.invokespecial 113, 3) := by decide +kernel
theorem dX1_init_241 : decode cX1_init 241 = .ok (.putfield 116, 3) := by decide +kernel
theorem dX1_init_244 : decode cX1_init 244 = .ok (.aload_n 0, 1) := by decide +kernel
theorem dX1_init_245 : decode cX1_init 245 = .ok (.aload_n 0, 1) := by decide +kernel
theorem dX1_init_246 : decode cX1_init 246 = .ok (.getfield 77, 3) := by decide +kernel
theorem dX1_init_249 : decode cX1_init 249 = .ok (.anewarray 120, 3) := by decide +kernel
theorem dX1_init_252 : decode cX1_init 252 = .ok (.putfield 122, 3) := by decide +kernel
theorem dX1_init_255 : decode cX1_init 255 = .ok (.iconst 0, 1) := by decide +kernel
theorem dX1_init_256 : decode cX1_init 256 = .ok (.istore_n 3, 1) := by decide +kernel
theorem dX1_init_257 : decode cX1_init 257 = .ok (.iload_n 3, 1) := by decide +kernel
theorem dX1_init_258 : decode cX1_init 258 = .ok (.aload_n 0, 1) := by decide +kernel
theorem dX1_init_259 : decode cX1_init 259 = .ok (.getfield 77, 3) := by decide +kernel
theorem dX1_init_262 : decode cX1_init 262 = .ok (.if_icmp .ge 27, 3) := by decide +kernel
theorem dX1_init_265 : decode cX1_init 265 = .ok (.aload_n 0, 1) := by decide +kernel
theorem dX1_init_266 : decode cX1_init 266 = .ok (.getfield 122, 3) := by decide +kernel
theorem dX1_init_269 : decode cX1_init 269 = .ok (.iload_n 3, 1) := by decide +kernel
theorem dX1_init_270 : decode cX1_init 270 = .ok (.new 120, 3) := by decide +kernel
theorem dX1_init_273 : decode cX1_init 273 = .ok (.dup, 1) := by decide +kernel
theorem dX1_init_274 : decode cX1_init 274 = .ok (.aload_n 0, 1) := by decide +kernel
theorem dX1_init_275 : decode cX1_init 275 = .ok (.getfield 116, 3) := by decide +kernel
theorem dX1_init_278 : decode cX1_init 278 = .ok (.iload_n 3, 1) := by decide +kernel
theorem dX1_init_279 : decode cX1_init 279 = .ok (.invokespecial 126, 3) := by decide +kernel
theorem dX1_init_282 : decode cX1_init 282 = .ok (.aastore, 1) := by decide +kernel
theorem dX1_init_283 : decode cX1_init 283 = .ok (.iinc 3 1, 3) := by decide +kernel
theorem dX1_init_286 : decode cX1_init 286 = .ok (.goto (-29), 3) := by decide +kernel
theorem dX1_init_289 : decode cX1_init 289 = .ok (.iconst 3, 1) := by decide +kernel
theorem dX1_init_290 : decode cX1_init 290 = .ok (.aload_n 0, 1) := by decide +kernel
theorem dX1_init_291 : decode cX1_init 291 = .ok (.getfield 77, 3) := by decide +kernel
theorem dX1_init_294 : decode cX1_init 294 = .ok (.imul, 1) := by decide +kernel
theorem dX1_init_295 : decode cX1_init 295 = .ok (.aload_n 0, 1) := by decide +kernel
theorem dX1_init_296 : decode cX1_init 296 = .ok (.getfield 77, 3) := by decide +kernel
theorem dX1_init_299 : decode cX1_init 299 = .ok (.imul, 1) := by decide +kernel
theorem dX1_init_300 : decode cX1_init 300 = .ok (.istore_n 3, 1) := by decide +kernel
theorem dX1_init_301 : decode cX1_init 301 = .ok (.aload_n 0, 1) := by decide +kernel
theorem dX1_init_302 : decode cX1_init 302 = .ok (.iload_n 3, 1) := by decide +kernel
theorem dX1_init_303 : decode cX1_init 303 = .ok (.newarray .int, 2) := by decide +kernel
theorem dX1_init_305 : decode cX1_init 305 = .ok (.putfield 129, 3) := by decide +kernel
theorem dX1_init_308 : decode cX1_init 308 = .ok (.aload_n 0, 1) := by decide +kernel
theorem dX1_init_309 : decode cX1_init 309 = .ok (.iload_n 3, 1) := by decide +kernel
theorem dX1_init_310 : decode cX1_init 310 = .ok (.newarray .int, 2) := by decide +kernel
theorem dX1_init_312 : decode cX1_init 312 = .ok (.putfield 132, 3) := by decide +kernel
theorem dX1_init_315 : decode cX1_init 315 = .ok (.aload_n 0, 1) := by decide +kernel
theorem dX1_init_316 : decode cX1_init 316 = .ok (.iload_n 3, 1) := by decide +kernel
theorem dX1_init_317 : decode cX1_init 317 = .ok (.newarray .int, 2) := by decide +kernel
theorem dX1_init_319 : decode cX1_init 319 = .ok (.putfield 135, 3) := by decide +kernel
theorem dX1_init_322 : decode cX1_init 322 = .ok (.aload_n 0, 1) := by decide +kernel
theorem dX1_init_323 : decode cX1_init 323 = .ok (.getfield 33, 3) := by decide +kernel
theorem dX1_init_326 : decode cX1_init 326 = .ok (.invokevirtual 138, 3) := by decide +kernel
theorem dX1_init_329 : decode cX1_init 329 = .ok (.return_, 1) := by decide +kernel
theorem dX1_feed_0 : decode cX1_feed 0 = .ok (.iconst 0, 1) := by decide +kernel
theorem dX1_feed_1 : decode cX1_feed 1 = .ok (.istore 6, 2) := by decide +kernel
theorem dX1_feed_3 : decode cX1_feed 3 = .ok (.iload 6, 2) := by decide +kernel
theorem dX1_feed_5 : decode cX1_feed 5 = .ok (.iconst 4, 1) := by decide +kernel
theorem dX1_feed_6 : decode cX1_feed 6 = .ok (.if_icmp .ge 92, 3) := by decide +kernel
theorem dX1_feed_9 : decode cX1_feed 9 = .ok (.bipush 24, 2) := by decide +kernel
theorem dX1_feed_11 : decode cX1_feed 11 = .ok (.bipush 8, 2) := by decide +kernel
theorem dX1_feed_13 : decode cX1_feed 13 = .ok (.iload 6, 2) := by decide +kernel
theorem dX1_feed_15 : decode cX1_feed 15 = .ok (.imul, 1) := by decide +kernel
theorem dX1_feed_16 : decode cX1_feed 16 = .ok (.isub, 1) := by decide +kernel
theorem dX1_feed_17 : decode cX1_feed 17 = .ok (.istore 7, 2) := by decide +kernel
theorem dX1_feed_19 : decode cX1_feed 19 = .ok (.aload_n 0, 1) := by decide +kernel
theorem dX1_feed_20 : decode cX1_feed 20 = .ok (.getfield 9, 3) := by decide +kernel
theorem dX1_feed_23 : decode cX1_feed 23 = .ok (.iload 6, 2) := by decide +kernel
theorem dX1_feed_25 : decode cX1_feed 25 = .ok (.iload_n 1, 1) := by decide +kernel
theorem dX1_feed_26 : decode cX1_feed 26 = .ok (.iload 7, 2) := by decide +kernel
theorem dX1_feed_28 : decode cX1_feed 28 = .ok (.ishr, 1) := by decide +kernel
theorem dX1_feed_29 : decode cX1_feed 29 = .ok (.i2b, 1) := by decide +kernel
theorem dX1_feed_30 : decode cX1_feed 30 = .ok (.bastore, 1) := by decide +kernel
theorem dX1_feed_31 : decode cX1_feed 31 = .ok (.aload_n 0, 1) := by decide +kernel
theorem dX1_feed_32 : decode cX1_feed 32 = .ok (.getfield 9, 3) := by decide +kernel
theorem dX1_feed_35 : decode cX1_feed 35 = .ok (.iconst 4, 1) := by decide +kernel
theorem dX1_feed_36 : decode cX1_feed 36 = .ok (.iload 6, 2) := by decide +kernel
theorem dX1_feed_38 : decode cX1_feed 38 = .ok (.iadd, 1) := by decide +kernel
theorem dX1_feed_39 : decode cX1_feed 39 = .ok (.iload_n 2, 1) := by decide +kernel
theorem dX1_feed_40 : decode cX1_feed 40 = .ok (.iload 7, 2) := by decide +kernel
theorem dX1_feed_42 : decode cX1_feed 42 = .ok (.ishr, 1) := by decide +kernel
theorem dX1_feed_43 : decode cX1_feed 43 = .ok (.i2b, 1) := by decide +kernel
theorem dX1_feed_44 : decode cX1_feed 44 = .ok (.bastore, 1) := by decide +kernel
theorem dX1_feed_45 : decode cX1_feed 45 = .ok (.aload_n 0, 1) := by decide +kernel
theorem dX1_feed_46 : decode cX1_feed 46 = .ok (.getfield 9, 3) := by decide +kernel
theorem dX1_feed_49 : decode cX1_feed 49 = .ok (.bipush 8, 2) := by decide +kernel
theorem dX1_feed_51 : decode cX1_feed 51 = .ok (.iload 6, 2) := by decide +kernel
theorem dX1_feed_53 : decode cX1_feed 53 = .ok (.iadd, 1) := by decide +kernel
theorem dX1_feed_54 : decode cX1_feed 54 = .ok (.iload_n 3, 1) := by decide +kernel
theorem dX1_feed_55 : decode cX1_feed 55 = .ok (.iload 7, 2) := by decide +kernel
theorem dX1_feed_57 : decode cX1_feed 57 = .ok (.ishr, 1) := by decide +kernel
theorem dX1_feed_58 : decode cX1_feed 58 = .ok (.i2b, 1) := by decide +kernel
theorem dX1_feed_59 : decode cX1_feed 59 = .ok (.bastore, 1) := by decide +kernel
theorem dX1_feed_60 : decode cX1_feed 60 = .ok (.aload_n 0, 1) := by decide +kernel
theorem dX1_feed_61 : decode cX1_feed 61 = .ok (.getfield 9, 3) := by decide +kernel
theorem dX1_feed_64 : decode cX1_feed 64 = .ok (.bipush 12, 2) := by decide +kernel
theorem dX1_feed_66 : decode cX1_feed 66 = .ok (.iload 6, 2) := by decide +kernel
theorem dX1_feed_68 : decode cX1_feed 68 = .ok (.iadd, 1) := by decide +kernel
theorem dX1_feed_69 : decode cX1_feed 69 = .ok (.iload 4, 2) := by decide +kernel
theorem dX1_feed_71 : decode cX1_feed 71 = .ok (.iload 7, 2) := by decide +kernel
theorem dX1_feed_73 : decode cX1_feed 73 = .ok (.ishr, 1) := by decide +kernel
theorem dX1_feed_74 : decode cX1_feed 74 = .ok (.i2b, 1) := by decide +kernel
theorem dX1_feed_75 : decode cX1_feed 75 = .ok (.bastore, 1) := by decide +kernel
theorem dX1_feed_76 : decode cX1_feed 76 = .ok (.aload_n 0, 1) := by decide +kernel
theorem dX1_feed_77 : decode cX1_feed 77 = .ok (.getfield 9, 3) := by decide +kernel
theorem dX1_feed_80 : decode cX1_feed 80 = .ok (.bipush 16, 2) := by decide +kernel
theorem dX1_feed_82 : decode cX1_feed 82 = .ok (.iload 6, 2) := by decide +kernel
theorem dX1_feed_84 : decode cX1_feed 84 = .ok (.iadd, 1) := by decide +kernel
theorem dX1_feed_85 : decode cX1_feed 85 = .ok (.iload 5, 2) := by decide +kernel
theorem dX1_feed_87 : decode cX1_feed 87 = .ok (.iload 7, 2) := by decide +kernel
theorem dX1_feed_89 : decode cX1_feed 89 = .ok (.ishr, 1) := by decide +kernel
theorem dX1_feed_90 : decode cX1_feed 90 = .ok (.i2b, 1) := by decide +kernel
theorem dX1_feed_91 : decode cX1_feed 91 = .ok (.bastore, 1) := by decide +kernel
theorem dX1_feed_92 : decode cX1_feed 92 = .ok (.iinc 6 1, 3) := by decide +kernel
theorem dX1_feed_95 : decode cX1_feed 95 = .ok (.goto (-92), 3) := by decide +kernel
theorem dX1_feed_98 : decode cX1_feed 98 = .ok (.return_, 1) := by decide +kernel
theorem dX1_end_0 : decode cX1_end 0 = .ok (.iload_n 1, 1) := by decide +kernel
theorem dX1_end_1 : decode cX1_end 1 = .ok (.ifCond .lt 21, 3) := by decide +kernel
theorem dX1_end_4 : decode cX1_end 4 = .ok (.iload_n 1, 1) := by decide +kernel
theorem dX1_end_5 : decode cX1_end 5 = .ok (.bipush 20, 2) := by decide +kernel
theorem dX1_end_7 : decode cX1_end 7 = .ok (.if_icmp .gt 15, 3) := by decide +kernel
theorem dX1_end_10 : decode cX1_end 10 = .ok (.aload_n 0, 1) := by decide +kernel
theorem dX1_end_11 : decode cX1_end 11 = .ok (.getfield 141, 3) := by decide +kernel
theorem dX1_end_14 : decode cX1_end 14 = .ok (.iload_n 1, 1) := by decide +kernel
theorem dX1_end_15 : decode cX1_end 15 = .ok (.iadd, 1) := by decide +kernel
theorem dX1_end_16 : decode cX1_end 16 = .ok (.sipush 4000, 3) := by decide +kernel
theorem dX1_end_19 : decode cX1_end 19 = .ok (.if_icmp .le 5, 3) := by decide +kernel
theorem dX1_end_22 : decode cX1_end 22 = .ok (.iconst (-1), 1) := by decide +kernel
theorem dX1_end_23 : decode cX1_end 23 = .ok (.ireturn, 1) := by decide +kernel
theorem dX1_end_24 : decode cX1_end 24 = .ok (.iconst 0, 1) := by decide +kernel
theorem dX1_end_25 : decode cX1_end 25 = .ok (.istore_n 2, 1) := by decide +kernel
theorem dX1_end_26 : decode cX1_end 26 = .ok (.iload_n 2, 1) := by decide +kernel
theorem dX1_end_27 : decode cX1_end 27 = .ok (.iload_n 1, 1) := by decide +kernel
theorem dX1_end_28 : decode cX1_end 28 = .ok (.if_icmp .ge 55, 3) := by decide +kernel
theorem dX1_end_31 : decode cX1_end 31 = .ok (.aload_n 0, 1) := by decide +kernel
theorem dX1_end_32 : decode cX1_end 32 = .ok (.getfield 9, 3) := by decide +kernel
theorem dX1_end_35 : decode cX1_end 35 = .ok (.iload_n 2, 1) := by decide +kernel
theorem dX1_end_36 : decode cX1_end 36 = .ok (.baload, 1) := by decide +kernel
theorem dX1_end_37 : decode cX1_end 37 = .ok (.bipush 32, 2) := by decide +kernel
theorem dX1_end_39 : decode cX1_end 39 = .ok (.if_icmp .lt 14, 3) := by decide +kernel
theorem dX1_end_42 : decode cX1_end 42 = .ok (.aload_n 0, 1) := by decide +kernel
theorem dX1_end_43 : decode cX1_end 43 = .ok (.getfield 9, 3) := by decide +kernel
theorem dX1_end_46 : decode cX1_end 46 = .ok (.iload_n 2, 1) := by decide +kernel
theorem dX1_end_47 : decode cX1_end 47 = .ok (.baload, 1) := by decide +kernel
theorem dX1_end_48 : decode cX1_end 48 = .ok (.bipush 126, 2) := by decide +kernel
theorem dX1_end_50 : decode cX1_end 50 = .ok (.if_icmp .le 27, 3) := by decide +kernel
theorem dX1_end_53 : decode cX1_end 53 = .ok (.aload_n 0, 1) := by decide +kernel
theorem dX1_end_54 : decode cX1_end 54 = .ok (.getfield 9, 3) := by decide +kernel
theorem dX1_end_57 : decode cX1_end 57 = .ok (.iload_n 2, 1) := by decide +kernel
theorem dX1_end_58 : decode cX1_end 58 = .ok (.baload, 1) := by decide +kernel
theorem dX1_end_59 : decode cX1_end 59 = .ok (.bipush 9, 2) := by decide +kernel
theorem dX1_end_61 : decode cX1_end 61 = .ok (.if_icmp .eq 16, 3) := by decide +kernel
theorem dX1_end_64 : decode cX1_end 64 = .ok (.aload_n 0, 1) := by decide +kernel
theorem dX1_end_65 : decode cX1_end 65 = .ok (.getfield 9, 3) := by decide +kernel
theorem dX1_end_68 : decode cX1_end 68 = .ok (.iload_n 2, 1) := by decide +kernel
theorem dX1_end_69 : decode cX1_end 69 = .ok (.baload, 1) := by decide +kernel
theorem dX1_end_70 : decode cX1_end 70 = .ok (.bipush 10, 2) := by decide +kernel
theorem dX1_end_72 : decode cX1_end 72 = .ok (.if_icmp .eq 5, 3) := by decide +kernel
theorem dX1_end_75 : decode cX1_end 75 = .ok (.iconst (-1), 1) := by decide +kernel
theorem dX1_end_76 : decode cX1_end 76 = .ok (.ireturn, 1) := by decide +kernel
theorem dX1_end_77 : decode cX1_end 77 = .ok (.iinc 2 1, 3) := by decide +kernel
theorem dX1_end_80 : decode cX1_end 80 = .ok (.goto (-54), 3) := by decide +kernel
theorem dX1_end_83 : decode cX1_end 83 = .ok (.aload_n 0, 1) := by decide +kernel
theorem dX1_end_84 : decode cX1_end 84 = .ok (.getfield 9, 3) := by decide +kernel
theorem dX1_end_87 : decode cX1_end 87 = .ok (.iconst 0, 1) := by decide +kernel
theorem dX1_end_88 : decode cX1_end 88 = .ok (.aload_n 0, 1) := by decide +kernel
theorem dX1_end_89 : decode cX1_end 89 = .ok (.getfield 13, 3) := by decide +kernel
theorem dX1_end_92 : decode cX1_end 92 = .ok (.aload_n 0, 1) := by decide +kernel
theorem dX1_end_93 : decode cX1_end 93 = .ok (.getfield 141, 3) := by decide +kernel
theorem dX1_end_96 : decode cX1_end 96 = .ok (.iload_n 1, 1) := by decide +kernel
theorem dX1_end_97 : decode cX1_end 97 = .ok (.invokestatic 144, 3) := by decide +kernel
theorem dX1_end_100 : decode cX1_end 100 = .ok (.aload_n 0, 1) := by decide +kernel
theorem dX1_end_101 : decode cX1_end 101 = .ok (.dup, 1) := by decide +kernel
theorem dX1_end_102 : decode cX1_end 102 = .ok (.getfield 141, 3) := by decide +kernel
theorem dX1_end_105 : decode cX1_end 105 = .ok (.iload_n 1, 1) := by decide +kernel
theorem dX1_end_106 : decode cX1_end 106 = .ok (.iadd, 1) := by decide +kernel
theorem dX1_end_107 : decode cX1_end 107 = .ok (.putfield 141, 3) := by decide +kernel
theorem dX1_end_110 : decode cX1_end 110 = .ok (.iconst 0, 1) := by decide +kernel
theorem dX1_end_111 : decode cX1_end 111 = .ok (.istore_n 2, 1) := by decide +kernel
theorem dX1_end_112 : decode cX1_end 112 = .ok (.iload_n 2, 1) := by decide +kernel
theorem dX1_end_113 : decode cX1_end 113 = .ok (.bipush 20, 2) := by decide +kernel
theorem dX1_end_115 : decode cX1_end 115 = .ok (.if_icmp .ge 16, 3) := by decide +kernel
theorem dX1_end_118 : decode cX1_end 118 = .ok (.aload_n 0, 1) := by decide +kernel
theorem dX1_end_119 : decode cX1_end 119 = .ok (.getfield 9, 3) := by decide +kernel
theorem dX1_end_122 : decode cX1_end 122 = .ok (.iload_n 2, 1) := by decide +kernel
theorem dX1_end_123 : decode cX1_end 123 = .ok (.iconst 0, 1) := by decide +kernel
theorem dX1_end_124 : decode cX1_end 124 = .ok (.bastore, 1) := by decide +kernel
theorem dX1_end_125 : decode cX1_end 125 = .ok (.iinc 2 1, 3) := by decide +kernel
theorem dX1_end_128 : decode cX1_end 128 = .ok (.goto (-16), 3) := by decide +kernel
theorem dX1_end_131 : decode cX1_end 131 = .ok (.aload_n 0, 1) := by decide +kernel
theorem dX1_end_132 : decode cX1_end 132 = .ok (.getfield 141, 3) := by decide +kernel
theorem dX1_end_135 : decode cX1_end 135 = .ok (.ireturn, 1) := by decide +kernel
theorem dX1_compile_0 : decode cX1_compile 0 = .ok (.aload_n 0, 1) := by decide +kernel
theorem dX1_compile_1 : decode cX1_compile 1 = .ok (.getfield 141, 3) := by decide +kernel
theorem dX1_compile_4 : decode cX1_compile 4 = .ok (.istore_n 1, 1) := by decide +kernel
theorem dX1_compile_5 : decode cX1_compile 5 = .ok (.aload_n 0, 1) := by decide +kernel
theorem dX1_compile_6 : decode cX1_compile 6 = .ok (.iconst 0, 1) := by decide +kernel
theorem dX1_compile_7 : decode cX1_compile 7 = .ok (.putfield 141, 3) := by decide +kernel
theorem dX1_compile_10 : decode cX1_compile 10 = .ok (.aload_n 0, 1) := by decide +kernel
theorem dX1_compile_11 : decode cX1_compile 11 = .ok (.iconst 0, 1) := by decide +kernel
theorem dX1_compile_12 : decode cX1_compile 12 = .ok (.putfield 150, 3) := by decide +kernel
theorem dX1_compile_15 : decode cX1_compile 15 = .ok (.aload_n 0, 1) := by decide +kernel
theorem dX1_compile_16 : decode cX1_compile 16 = .ok (.iconst 0, 1) := by decide +kernel
theorem dX1_compile_17 : decode cX1_compile 17 = .ok (.putfield 154, 3) := by decide +kernel
theorem dX1_compile_20 : decode cX1_compile 20 = .ok (.aload_n 0, 1) := by decide +kernel
theorem dX1_compile_21 : decode cX1_compile 21 = .ok (.iconst 0, 1) := by decide +kernel
theorem dX1_compile_22 : decode cX1_compile 22 = .ok (.putfield 157, 3) := by decide +kernel
theorem dX1_compile_25 : decode cX1_compile 25 = .ok (.aload_n 0, 1) := by decide +kernel
theorem dX1_compile_26 : decode cX1_compile 26 = .ok (.iconst 0, 1) := by decide +kernel
theorem dX1_compile_27 : decode cX1_compile 27 = .ok (.putfield 160, 3) := by decide +kernel
theorem dX1_compile_30 : decode cX1_compile 30 = .ok (.aload_n 0, 1) := by decide +kernel
theorem dX1_compile_31 : decode cX1_compile 31 = .ok (.getfield 26, 3) := by decide +kernel
theorem dX1_compile_34 : decode cX1_compile 34 = .ok (.invokevirtual 163, 3) := by decide +kernel
theorem dX1_compile_37 : decode cX1_compile 37 = .ok (.aload_n 0, 1) := by decide +kernel
theorem dX1_compile_38 : decode cX1_compile 38 = .ok (.getfield 19, 3) := by decide +kernel
theorem dX1_compile_41 : decode cX1_compile 41 = .ok (.invokevirtual 164, 3) := by decide +kernel
theorem dX1_compile_44 : decode cX1_compile 44 = .ok (.aload_n 0, 1) := by decide +kernel
theorem dX1_compile_45 : decode cX1_compile 45 = .ok (.getfield 33, 3) := by decide +kernel
theorem dX1_compile_48 : decode cX1_compile 48 = .ok (.invokevirtual 138, 3) := by decide +kernel
theorem dX1_compile_51 : decode cX1_compile 51 = .ok (.aload_n 0, 1) := by decide +kernel
theorem dX1_compile_52 : decode cX1_compile 52 = .ok (.getfield 89, 3) := by decide +kernel
theorem dX1_compile_55 : decode cX1_compile 55 = .ok (.aload_n 0, 1) := by decide +kernel
theorem dX1_compile_56 : decode cX1_compile 56 = .ok (.getfield 13, 3) := by decide +kernel
theorem dX1_compile_59 : decode cX1_compile 59 = .ok (.iload_n 1, 1) := by decide +kernel
theorem dX1_compile_60 : decode cX1_compile 60 = .ok (.invokevirtual 165, 3) := by decide +kernel
theorem dX1_compile_63 : decode cX1_compile 63 = .ok (.aload_n 0, 1) := by decide +kernel
theorem dX1_compile_64 : decode cX1_compile 64 = .ok (.getfield 33, 3) := by decide +kernel
theorem dX1_compile_67 : decode cX1_compile 67 = .ok (.invokevirtual 169, 3) := by decide +kernel
theorem dX1_compile_70 : decode cX1_compile 70 = .ok (.ifCond .ne 10, 3) := by decide +kernel
theorem dX1_compile_73 : decode cX1_compile 73 = .ok (.aload_n 0, 1) := by decide +kernel
theorem dX1_compile_74 : decode cX1_compile 74 = .ok (.getfield 98, 3) := by decide +kernel
theorem dX1_compile_77 : decode cX1_compile 77 = .ok (.invokevirtual 173, 3) := by decide +kernel
theorem dX1_compile_80 : decode cX1_compile 80 = .ok (.aload_n 0, 1) := by decide +kernel
theorem dX1_compile_81 : decode cX1_compile 81 = .ok (.getfield 33, 3) := by decide +kernel
theorem dX1_compile_84 : decode cX1_compile 84 = .ok (.invokevirtual 169, 3) := by decide +kernel
theorem dX1_compile_87 : decode cX1_compile 87 = .ok (.ifCond .ne 17, 3) := by decide +kernel
theorem dX1_compile_90 : decode cX1_compile 90 = .ok (.aload_n 0, 1) := by decide +kernel
theorem dX1_compile_91 : decode cX1_compile 91 = .ok (.getfield 107, 3) := by decide +kernel
theorem dX1_compile_94 : decode cX1_compile 94 = .ok (.aload_n 0, 1) := by decide +kernel
theorem dX1_compile_95 : decode cX1_compile 95 = .ok (.getfield 98, 3) := by decide +kernel
theorem dX1_compile_98 : decode cX1_compile 98 = .ok (.getfield 176, 3) := by decide +kernel
theorem dX1_compile_101 : decode cX1_compile 101 = .ok (.invokevirtual 179, 3) := by decide +kernel
theorem dX1_compile_104 : decode cX1_compile 104 = .ok (.aload_n 0, 1) := by decide +kernel
theorem dX1_compile_105 : decode cX1_compile 105 = .ok (.getfield 33, 3) := by decide +kernel
theorem dX1_compile_108 : decode cX1_compile 108 = .ok (.invokevirtual 169, 3) := by decide +kernel
theorem dX1_compile_111 : decode cX1_compile 111 = .ok (.ifCond .eq 11, 3) := by decide +kernel
theorem dX1_compile_114 : decode cX1_compile 114 = .ok (.aload_n 0, 1) := by decide +kernel
theorem dX1_compile_115 : decode cX1_compile 115 = .ok (.getfield 33, 3) := by decide +kernel
theorem dX1_compile_118 : decode cX1_compile 118 = .ok (.getfield 182, 3) := by decide +kernel
theorem dX1_compile_121 : decode cX1_compile 121 = .ok (.ireturn, 1) := by decide +kernel
theorem dX1_compile_122 : decode cX1_compile 122 = .ok (.aload_n 0, 1) := by decide +kernel
theorem dX1_compile_123 : decode cX1_compile 123 = .ok (.getfield 116, 3) := by decide +kernel
theorem dX1_compile_126 : decode cX1_compile 126 = .ok (.invokevirtual 185, 3) := by decide +kernel
theorem dX1_compile_129 : decode cX1_compile 129 = .ok (.iconst 0, 1) := by decide +kernel
theorem dX1_compile_130 : decode cX1_compile 130 = .ok (.istore_n 2, 1) := by decide +kernel
theorem dX1_compile_131 : decode cX1_compile 131 = .ok (.iload_n 2, 1) := by decide +kernel
theorem dX1_compile_132 : decode cX1_compile 132 = .ok (.sipush 256, 3) := by decide +kernel
theorem dX1_compile_135 : decode cX1_compile 135 = .ok (.if_icmp .ge 16, 3) := by decide +kernel
theorem dX1_compile_138 : decode cX1_compile 138 = .ok (.aload_n 0, 1) := by decide +kernel
theorem dX1_compile_139 : decode cX1_compile 139 = .ok (.getfield 51, 3) := by decide +kernel
theorem dX1_compile_142 : decode cX1_compile 142 = .ok (.iload_n 2, 1) := by decide +kernel
theorem dX1_compile_143 : decode cX1_compile 143 = .ok (.iconst 0, 1) := by decide +kernel
theorem dX1_compile_144 : decode cX1_compile 144 = .ok (.iastore, 1) := by decide +kernel
theorem dX1_compile_145 : decode cX1_compile 145 = .ok (.iinc 2 1, 3) := by decide +kernel
theorem dX1_compile_148 : decode cX1_compile 148 = .ok (.goto (-17), 3) := by decide +kernel
theorem dX1_compile_151 : decode cX1_compile 151 = .ok (.aload_n 0, 1) := by decide +kernel
theorem dX1_compile_152 : decode cX1_compile 152 = .ok (.iconst 1, 1) := by decide +kernel
theorem dX1_compile_153 : decode cX1_compile 153 = .ok (.putfield 150, 3) := by decide +kernel
theorem dX1_compile_156 : decode cX1_compile 156 = .ok (.iconst 0, 1) := by decide +kernel
theorem dX1_compile_157 : decode cX1_compile 157 = .ok (.ireturn, 1) := by decide +kernel
theorem dX1_look_0 : decode cX1_look 0 = .ok (.iload_n 1, 1) := by decide +kernel
theorem dX1_look_1 : decode cX1_look 1 = .ok (.tableswitch 144 0 14 #[75, 83, 83, 83, 83, 83, 83, 83, 83, 89, 94, 99, 104, 128, 136], 75) := by decide +kernel
theorem dX1_look_76 : decode cX1_look 76 = .ok (.aload_n 0, 1) := by decide +kernel
theorem dX1_look_77 : decode cX1_look 77 = .ok (.getfield 33, 3) := by decide +kernel
theorem dX1_look_80 : decode cX1_look 80 = .ok (.getfield 212, 3) := by decide +kernel
theorem dX1_look_83 : decode cX1_look 83 = .ok (.ireturn, 1) := by decide +kernel
theorem dX1_look_84 : decode cX1_look 84 = .ok (.aload_n 0, 1) := by decide +kernel
theorem dX1_look_85 : decode cX1_look 85 = .ok (.iload_n 1, 1) := by decide +kernel
theorem dX1_look_86 : decode cX1_look 86 = .ok (.invokevirtual 215, 3) := by decide +kernel
theorem dX1_look_89 : decode cX1_look 89 = .ok (.ireturn, 1) := by decide +kernel
theorem dX1_look_90 : decode cX1_look 90 = .ok (.aload_n 0, 1) := by decide +kernel
theorem dX1_look_91 : decode cX1_look 91 = .ok (.getfield 157, 3) := by decide +kernel
theorem dX1_look_94 : decode cX1_look 94 = .ok (.ireturn, 1) := by decide +kernel
theorem dX1_look_95 : decode cX1_look 95 = .ok (.aload_n 0, 1) := by decide +kernel
theorem dX1_look_96 : decode cX1_look 96 = .ok (.getfield 160, 3) := by decide +kernel
theorem dX1_look_99 : decode cX1_look 99 = .ok (.ireturn, 1) := by decide +kernel
theorem dX1_look_100 : decode cX1_look 100 = .ok (.aload_n 0, 1) := by decide +kernel
theorem dX1_look_101 : decode cX1_look 101 = .ok (.invokevirtual 219, 3) := by decide +kernel
theorem dX1_look_104 : decode cX1_look 104 = .ok (.ireturn, 1) := by decide +kernel
theorem dX1_look_105 : decode cX1_look 105 = .ok (.aload_n 0, 1) := by decide +kernel
theorem dX1_look_106 : decode cX1_look 106 = .ok (.getfield 150, 3) := by decide +kernel
theorem dX1_look_109 : decode cX1_look 109 = .ok (.ifCond .ne 7, 3) := by decide +kernel
theorem dX1_look_112 : decode cX1_look 112 = .ok (.iconst 0, 1) := by decide +kernel
theorem dX1_look_113 : decode cX1_look 113 = .ok (.goto 15, 3) := by decide +kernel
theorem dX1_look_116 : decode cX1_look 116 = .ok (.aload_n 0, 1) := by decide +kernel
theorem dX1_look_117 : decode cX1_look 117 = .ok (.getfield 154, 3) := by decide +kernel
theorem dX1_look_120 : decode cX1_look 120 = .ok (.ifCond .eq 7, 3) := by decide +kernel
theorem dX1_look_123 : decode cX1_look 123 = .ok (.iconst 2, 1) := by decide +kernel
theorem dX1_look_124 : decode cX1_look 124 = .ok (.goto 4, 3) := by decide +kernel
theorem dX1_look_127 : decode cX1_look 127 = .ok (.iconst 1, 1) := by decide +kernel
theorem dX1_look_128 : decode cX1_look 128 = .ok (.ireturn, 1) := by decide +kernel
theorem dX1_look_129 : decode cX1_look 129 = .ok (.aload_n 0, 1) := by decide +kernel
theorem dX1_look_130 : decode cX1_look 130 = .ok (.getfield 47, 3) := by decide +kernel
theorem dX1_look_133 : decode cX1_look 133 = .ok (.getfield 223, 3) := by decide +kernel
theorem dX1_look_136 : decode cX1_look 136 = .ok (.ireturn, 1) := by decide +kernel
theorem dX1_look_137 : decode cX1_look 137 = .ok (.aload_n 0, 1) := by decide +kernel
theorem dX1_look_138 : decode cX1_look 138 = .ok (.getfield 47, 3) := by decide +kernel
theorem dX1_look_141 : decode cX1_look 141 = .ok (.getfield 224, 3) := by decide +kernel
theorem dX1_look_144 : decode cX1_look 144 = .ok (.ireturn, 1) := by decide +kernel
theorem dX1_look_145 : decode cX1_look 145 = .ok (.iconst (-1), 1) := by decide +kernel
theorem dX1_look_146 : decode cX1_look 146 = .ok (.ireturn, 1) := by decide +kernel
theorem dX1_circuitLook_0 : decode cX1_circuitLook 0 = .ok (.aload_n 0, 1) := by decide +kernel
theorem dX1_circuitLook_1 : decode cX1_circuitLook 1 = .ok (.getfield 150, 3) := by decide +kernel
theorem dX1_circuitLook_4 : decode cX1_circuitLook 4 = .ok (.ifCond .ne 5, 3) := by decide +kernel
theorem dX1_circuitLook_7 : decode cX1_circuitLook 7 = .ok (.iconst (-1), 1) := by decide +kernel
theorem dX1_circuitLook_8 : decode cX1_circuitLook 8 = .ok (.ireturn, 1) := by decide +kernel
theorem dX1_circuitLook_9 : decode cX1_circuitLook 9 = .ok (.iload_n 1, 1) := by decide +kernel
theorem dX1_circuitLook_10 : decode cX1_circuitLook 10 = .ok (.tableswitch 122 1 7 #[42, 50, 58, 66, 74, 82, 90], 42) := by decide +kernel
theorem dX1_circuitLook_52 : decode cX1_circuitLook 52 = .ok (.aload_n 0, 1) := by decide +kernel
theorem dX1_circuitLook_53 : decode cX1_circuitLook 53 = .ok (.getfield 40, 3) := by decide +kernel
theorem dX1_circuitLook_56 : decode cX1_circuitLook 56 = .ok (.getfield 191, 3) := by decide +kernel
theorem dX1_circuitLook_59 : decode cX1_circuitLook 59 = .ok (.ireturn, 1) := by decide +kernel
theorem dX1_circuitLook_60 : decode cX1_circuitLook 60 = .ok (.aload_n 0, 1) := by decide +kernel
theorem dX1_circuitLook_61 : decode cX1_circuitLook 61 = .ok (.getfield 40, 3) := by decide +kernel
theorem dX1_circuitLook_64 : decode cX1_circuitLook 64 = .ok (.getfield 194, 3) := by decide +kernel
theorem dX1_circuitLook_67 : decode cX1_circuitLook 67 = .ok (.ireturn, 1) := by decide +kernel
theorem dX1_circuitLook_68 : decode cX1_circuitLook 68 = .ok (.aload_n 0, 1) := by decide +kernel
theorem dX1_circuitLook_69 : decode cX1_circuitLook 69 = .ok (.getfield 40, 3) := by decide +kernel
theorem dX1_circuitLook_72 : decode cX1_circuitLook 72 = .ok (.getfield 197, 3) := by decide +kernel
theorem dX1_circuitLook_75 : decode cX1_circuitLook 75 = .ok (.ireturn, 1) := by decide +kernel
theorem dX1_circuitLook_76 : decode cX1_circuitLook 76 = .ok (.aload_n 0, 1) := by decide +kernel
theorem dX1_circuitLook_77 : decode cX1_circuitLook 77 = .ok (.getfield 40, 3) := by decide +kernel
theorem dX1_circuitLook_80 : decode cX1_circuitLook 80 = .ok (.getfield 200, 3) := by decide +kernel
theorem dX1_circuitLook_83 : decode cX1_circuitLook 83 = .ok (.ireturn, 1) := by decide +kernel
theorem dX1_circuitLook_84 : decode cX1_circuitLook 84 = .ok (.aload_n 0, 1) := by decide +kernel
theorem dX1_circuitLook_85 : decode cX1_circuitLook 85 = .ok (.getfield 107, 3) := by decide +kernel
theorem dX1_circuitLook_88 : decode cX1_circuitLook 88 = .ok (.getfield 203, 3) := by decide +kernel
theorem dX1_circuitLook_91 : decode cX1_circuitLook 91 = .ok (.ireturn, 1) := by decide +kernel
theorem dX1_circuitLook_92 : decode cX1_circuitLook 92 = .ok (.aload_n 0, 1) := by decide +kernel
theorem dX1_circuitLook_93 : decode cX1_circuitLook 93 = .ok (.getfield 107, 3) := by decide +kernel
theorem dX1_circuitLook_96 : decode cX1_circuitLook 96 = .ok (.getfield 206, 3) := by decide +kernel
theorem dX1_circuitLook_99 : decode cX1_circuitLook 99 = .ok (.ireturn, 1) := by decide +kernel
theorem dX1_circuitLook_100 : decode cX1_circuitLook 100 = .ok (.aload_n 0, 1) := by decide +kernel
theorem dX1_circuitLook_101 : decode cX1_circuitLook 101 = .ok (.getfield 77, 3) := by decide +kernel
theorem dX1_circuitLook_104 : decode cX1_circuitLook 104 = .ok (.iconst 1, 1) := by decide +kernel
theorem dX1_circuitLook_105 : decode cX1_circuitLook 105 = .ok (.isub, 1) := by decide +kernel
theorem dX1_circuitLook_106 : decode cX1_circuitLook 106 = .ok (.aload_n 0, 1) := by decide +kernel
theorem dX1_circuitLook_107 : decode cX1_circuitLook 107 = .ok (.getfield 40, 3) := by decide +kernel
theorem dX1_circuitLook_110 : decode cX1_circuitLook 110 = .ok (.getfield 200, 3) := by decide +kernel
theorem dX1_circuitLook_113 : decode cX1_circuitLook 113 = .ok (.imul, 1) := by decide +kernel
theorem dX1_circuitLook_114 : decode cX1_circuitLook 114 = .ok (.iconst 3, 1) := by decide +kernel
theorem dX1_circuitLook_115 : decode cX1_circuitLook 115 = .ok (.aload_n 0, 1) := by decide +kernel
theorem dX1_circuitLook_116 : decode cX1_circuitLook 116 = .ok (.getfield 77, 3) := by decide +kernel
theorem dX1_circuitLook_119 : decode cX1_circuitLook 119 = .ok (.imul, 1) := by decide +kernel
theorem dX1_circuitLook_120 : decode cX1_circuitLook 120 = .ok (.iconst 1, 1) := by decide +kernel
theorem dX1_circuitLook_121 : decode cX1_circuitLook 121 = .ok (.isub, 1) := by decide +kernel
theorem dX1_circuitLook_122 : decode cX1_circuitLook 122 = .ok (.aload_n 0, 1) := by decide +kernel
theorem dX1_circuitLook_123 : decode cX1_circuitLook 123 = .ok (.getfield 40, 3) := by decide +kernel
theorem dX1_circuitLook_126 : decode cX1_circuitLook 126 = .ok (.getfield 194, 3) := by decide +kernel
theorem dX1_circuitLook_129 : decode cX1_circuitLook 129 = .ok (.imul, 1) := by decide +kernel
theorem dX1_circuitLook_130 : decode cX1_circuitLook 130 = .ok (.iadd, 1) := by decide +kernel
theorem dX1_circuitLook_131 : decode cX1_circuitLook 131 = .ok (.ireturn, 1) := by decide +kernel
theorem dX1_circuitLook_132 : decode cX1_circuitLook 132 = .ok (.aload_n 0, 1) := by decide +kernel
theorem dX1_circuitLook_133 : decode cX1_circuitLook 133 = .ok (.getfield 107, 3) := by decide +kernel
theorem dX1_circuitLook_136 : decode cX1_circuitLook 136 = .ok (.getfield 209, 3) := by decide +kernel
theorem dX1_circuitLook_139 : decode cX1_circuitLook 139 = .ok (.ireturn, 1) := by decide +kernel
theorem dX1_done_0 : decode cX1_done 0 = .ok (.iconst 0, 1) := by decide +kernel
theorem dX1_done_1 : decode cX1_done 1 = .ok (.istore_n 1, 1) := by decide +kernel
theorem dX1_done_2 : decode cX1_done 2 = .ok (.iconst 0, 1) := by decide +kernel
theorem dX1_done_3 : decode cX1_done 3 = .ok (.istore_n 2, 1) := by decide +kernel
theorem dX1_done_4 : decode cX1_done 4 = .ok (.iload_n 2, 1) := by decide +kernel
theorem dX1_done_5 : decode cX1_done 5 = .ok (.aload_n 0, 1) := by decide +kernel
theorem dX1_done_6 : decode cX1_done 6 = .ok (.getfield 77, 3) := by decide +kernel
theorem dX1_done_9 : decode cX1_done 9 = .ok (.if_icmp .ge 36, 3) := by decide +kernel
theorem dX1_done_12 : decode cX1_done 12 = .ok (.iload_n 1, 1) := by decide +kernel
theorem dX1_done_13 : decode cX1_done 13 = .ok (.aload_n 0, 1) := by decide +kernel
theorem dX1_done_14 : decode cX1_done 14 = .ok (.getfield 154, 3) := by decide +kernel
theorem dX1_done_17 : decode cX1_done 17 = .ok (.ifCond .eq 19, 3) := by decide +kernel
theorem dX1_done_20 : decode cX1_done 20 = .ok (.aload_n 0, 1) := by decide +kernel
theorem dX1_done_21 : decode cX1_done 21 = .ok (.getfield 122, 3) := by decide +kernel
theorem dX1_done_24 : decode cX1_done 24 = .ok (.iload_n 2, 1) := by decide +kernel
theorem dX1_done_25 : decode cX1_done 25 = .ok (.aaload, 1) := by decide +kernel
theorem dX1_done_26 : decode cX1_done 26 = .ok (.invokevirtual 188, 3) := by decide +kernel
theorem dX1_done_29 : decode cX1_done 29 = .ok (.ifCond .eq 7, 3) := by decide +kernel
theorem dX1_done_32 : decode cX1_done 32 = .ok (.iconst 1, 1) := by decide +kernel
theorem dX1_done_33 : decode cX1_done 33 = .ok (.goto 4, 3) := by decide +kernel
theorem dX1_done_36 : decode cX1_done 36 = .ok (.iconst 0, 1) := by decide +kernel
theorem dX1_done_37 : decode cX1_done 37 = .ok (.iadd, 1) := by decide +kernel
theorem dX1_done_38 : decode cX1_done 38 = .ok (.istore_n 1, 1) := by decide +kernel
theorem dX1_done_39 : decode cX1_done 39 = .ok (.iinc 2 1, 3) := by decide +kernel
theorem dX1_done_42 : decode cX1_done 42 = .ok (.goto (-38), 3) := by decide +kernel
theorem dX1_done_45 : decode cX1_done 45 = .ok (.iload_n 1, 1) := by decide +kernel
theorem dX1_done_46 : decode cX1_done 46 = .ok (.ireturn, 1) := by decide +kernel
theorem dX1_gate_0 : decode cX1_gate 0 = .ok (.aload_n 0, 1) := by decide +kernel
theorem dX1_gate_1 : decode cX1_gate 1 = .ok (.getfield 150, 3) := by decide +kernel
theorem dX1_gate_4 : decode cX1_gate 4 = .ok (.ifCond .eq 18, 3) := by decide +kernel
theorem dX1_gate_7 : decode cX1_gate 7 = .ok (.iload_n 1, 1) := by decide +kernel
theorem dX1_gate_8 : decode cX1_gate 8 = .ok (.ifCond .lt 14, 3) := by decide +kernel
theorem dX1_gate_11 : decode cX1_gate 11 = .ok (.iload_n 1, 1) := by decide +kernel
theorem dX1_gate_12 : decode cX1_gate 12 = .ok (.aload_n 0, 1) := by decide +kernel
theorem dX1_gate_13 : decode cX1_gate 13 = .ok (.getfield 40, 3) := by decide +kernel
theorem dX1_gate_16 : decode cX1_gate 16 = .ok (.getfield 191, 3) := by decide +kernel
theorem dX1_gate_19 : decode cX1_gate 19 = .ok (.if_icmp .lt 5, 3) := by decide +kernel
theorem dX1_gate_22 : decode cX1_gate 22 = .ok (.iconst (-1), 1) := by decide +kernel
theorem dX1_gate_23 : decode cX1_gate 23 = .ok (.ireturn, 1) := by decide +kernel
theorem dX1_gate_24 : decode cX1_gate 24 = .ok (.iload_n 2, 1) := by decide +kernel
theorem dX1_gate_25 : decode cX1_gate 25 = .ok (.tableswitch 79 0 3 #[31, 49, 59, 69], 31) := by decide +kernel
theorem dX1_gate_56 : decode cX1_gate 56 = .ok (.aload_n 0, 1) := by decide +kernel
theorem dX1_gate_57 : decode cX1_gate 57 = .ok (.getfield 40, 3) := by decide +kernel
theorem dX1_gate_60 : decode cX1_gate 60 = .ok (.getfield 227, 3) := by decide +kernel
theorem dX1_gate_63 : decode cX1_gate 63 = .ok (.iload_n 1, 1) := by decide +kernel
theorem dX1_gate_64 : decode cX1_gate 64 = .ok (.baload, 1) := by decide +kernel
theorem dX1_gate_65 : decode cX1_gate 65 = .ok (.ifCond .eq 7, 3) := by decide +kernel
theorem dX1_gate_68 : decode cX1_gate 68 = .ok (.iconst 1, 1) := by decide +kernel
theorem dX1_gate_69 : decode cX1_gate 69 = .ok (.goto 4, 3) := by decide +kernel
theorem dX1_gate_72 : decode cX1_gate 72 = .ok (.iconst 0, 1) := by decide +kernel
theorem dX1_gate_73 : decode cX1_gate 73 = .ok (.ireturn, 1) := by decide +kernel
theorem dX1_gate_74 : decode cX1_gate 74 = .ok (.aload_n 0, 1) := by decide +kernel
theorem dX1_gate_75 : decode cX1_gate 75 = .ok (.getfield 40, 3) := by decide +kernel
theorem dX1_gate_78 : decode cX1_gate 78 = .ok (.getfield 231, 3) := by decide +kernel
theorem dX1_gate_81 : decode cX1_gate 81 = .ok (.iload_n 1, 1) := by decide +kernel
theorem dX1_gate_82 : decode cX1_gate 82 = .ok (.saload, 1) := by decide +kernel
theorem dX1_gate_83 : decode cX1_gate 83 = .ok (.ireturn, 1) := by decide +kernel
theorem dX1_gate_84 : decode cX1_gate 84 = .ok (.aload_n 0, 1) := by decide +kernel
theorem dX1_gate_85 : decode cX1_gate 85 = .ok (.getfield 40, 3) := by decide +kernel
theorem dX1_gate_88 : decode cX1_gate 88 = .ok (.getfield 235, 3) := by decide +kernel
theorem dX1_gate_91 : decode cX1_gate 91 = .ok (.iload_n 1, 1) := by decide +kernel
theorem dX1_gate_92 : decode cX1_gate 92 = .ok (.iaload, 1) := by decide +kernel
theorem dX1_gate_93 : decode cX1_gate 93 = .ok (.ireturn, 1) := by decide +kernel
theorem dX1_gate_94 : decode cX1_gate 94 = .ok (.aload_n 0, 1) := by decide +kernel
theorem dX1_gate_95 : decode cX1_gate 95 = .ok (.getfield 40, 3) := by decide +kernel
theorem dX1_gate_98 : decode cX1_gate 98 = .ok (.getfield 238, 3) := by decide +kernel
theorem dX1_gate_101 : decode cX1_gate 101 = .ok (.iload_n 1, 1) := by decide +kernel
theorem dX1_gate_102 : decode cX1_gate 102 = .ok (.iaload, 1) := by decide +kernel
theorem dX1_gate_103 : decode cX1_gate 103 = .ok (.ireturn, 1) := by decide +kernel
theorem dX1_gate_104 : decode cX1_gate 104 = .ok (.iconst (-1), 1) := by decide +kernel
theorem dX1_gate_105 : decode cX1_gate 105 = .ok (.ireturn, 1) := by decide +kernel
theorem dX1_literal_0 : decode cX1_literal 0 = .ok (.aload_n 0, 1) := by decide +kernel
theorem dX1_literal_1 : decode cX1_literal 1 = .ok (.iload_n 1, 1) := by decide +kernel
theorem dX1_literal_2 : decode cX1_literal 2 = .ok (.invokevirtual 241, 3) := by decide +kernel
theorem dX1_literal_5 : decode cX1_literal 5 = .ok (.ifCond .eq 39, 3) := by decide +kernel
theorem dX1_literal_8 : decode cX1_literal 8 = .ok (.iload_n 2, 1) := by decide +kernel
theorem dX1_literal_9 : decode cX1_literal 9 = .ok (.ifCond .lt 35, 3) := by decide +kernel
theorem dX1_literal_12 : decode cX1_literal 12 = .ok (.iload_n 2, 1) := by decide +kernel
theorem dX1_literal_13 : decode cX1_literal 13 = .ok (.aload_n 0, 1) := by decide +kernel
theorem dX1_literal_14 : decode cX1_literal 14 = .ok (.getfield 107, 3) := by decide +kernel
theorem dX1_literal_17 : decode cX1_literal 17 = .ok (.getfield 245, 3) := by decide +kernel
theorem dX1_literal_20 : decode cX1_literal 20 = .ok (.iload_n 1, 1) := by decide +kernel
theorem dX1_literal_21 : decode cX1_literal 21 = .ok (.iaload, 1) := by decide +kernel
theorem dX1_literal_22 : decode cX1_literal 22 = .ok (.if_icmp .ge 22, 3) := by decide +kernel
theorem dX1_literal_25 : decode cX1_literal 25 = .ok (.aload_n 0, 1) := by decide +kernel
theorem dX1_literal_26 : decode cX1_literal 26 = .ok (.getfield 107, 3) := by decide +kernel
theorem dX1_literal_29 : decode cX1_literal 29 = .ok (.getfield 248, 3) := by decide +kernel
theorem dX1_literal_32 : decode cX1_literal 32 = .ok (.aload_n 0, 1) := by decide +kernel
theorem dX1_literal_33 : decode cX1_literal 33 = .ok (.getfield 81, 3) := by decide +kernel
theorem dX1_literal_36 : decode cX1_literal 36 = .ok (.iload_n 1, 1) := by decide +kernel
theorem dX1_literal_37 : decode cX1_literal 37 = .ok (.imul, 1) := by decide +kernel
theorem dX1_literal_38 : decode cX1_literal 38 = .ok (.iload_n 2, 1) := by decide +kernel
theorem dX1_literal_39 : decode cX1_literal 39 = .ok (.iadd, 1) := by decide +kernel
theorem dX1_literal_40 : decode cX1_literal 40 = .ok (.iaload, 1) := by decide +kernel
theorem dX1_literal_41 : decode cX1_literal 41 = .ok (.goto 5, 3) := by decide +kernel
theorem dX1_literal_44 : decode cX1_literal 44 = .ok (.bipush (-3), 2) := by decide +kernel
theorem dX1_literal_46 : decode cX1_literal 46 = .ok (.ireturn, 1) := by decide +kernel
theorem dX1_isOutput_0 : decode cX1_isOutput 0 = .ok (.aload_n 0, 1) := by decide +kernel
theorem dX1_isOutput_1 : decode cX1_isOutput 1 = .ok (.getfield 150, 3) := by decide +kernel
theorem dX1_isOutput_4 : decode cX1_isOutput 4 = .ok (.ifCond .eq 22, 3) := by decide +kernel
theorem dX1_isOutput_7 : decode cX1_isOutput 7 = .ok (.iload_n 1, 1) := by decide +kernel
theorem dX1_isOutput_8 : decode cX1_isOutput 8 = .ok (.ifCond .lt 18, 3) := by decide +kernel
theorem dX1_isOutput_11 : decode cX1_isOutput 11 = .ok (.iload_n 1, 1) := by decide +kernel
theorem dX1_isOutput_12 : decode cX1_isOutput 12 = .ok (.aload_n 0, 1) := by decide +kernel
theorem dX1_isOutput_13 : decode cX1_isOutput 13 = .ok (.getfield 107, 3) := by decide +kernel
theorem dX1_isOutput_16 : decode cX1_isOutput 16 = .ok (.getfield 206, 3) := by decide +kernel
theorem dX1_isOutput_19 : decode cX1_isOutput 19 = .ok (.if_icmp .ge 7, 3) := by decide +kernel
theorem dX1_isOutput_22 : decode cX1_isOutput 22 = .ok (.iconst 1, 1) := by decide +kernel
theorem dX1_isOutput_23 : decode cX1_isOutput 23 = .ok (.goto 4, 3) := by decide +kernel
theorem dX1_isOutput_26 : decode cX1_isOutput 26 = .ok (.iconst 0, 1) := by decide +kernel
theorem dX1_isOutput_27 : decode cX1_isOutput 27 = .ok (.ireturn, 1) := by decide +kernel
theorem dX1_input_0 : decode cX1_input 0 = .ok (.aload_n 0, 1) := by decide +kernel
theorem dX1_input_1 : decode cX1_input 1 = .ok (.iload_n 1, 1) := by decide +kernel
theorem dX1_input_2 : decode cX1_input 2 = .ok (.invokevirtual 251, 3) := by decide +kernel
theorem dX1_input_5 : decode cX1_input 5 = .ok (.ifCond .ne 7, 3) := by decide +kernel
theorem dX1_input_8 : decode cX1_input 8 = .ok (.ldc2_w 254, 3) := by decide +kernel
theorem dX1_input_11 : decode cX1_input 11 = .ok (.lreturn, 1) := by decide +kernel
theorem dX1_input_12 : decode cX1_input 12 = .ok (.iload_n 2, 1) := by decide +kernel
theorem dX1_input_13 : decode cX1_input 13 = .ok (.tableswitch 71 0 2 #[27, 38, 49], 27) := by decide +kernel
theorem dX1_input_40 : decode cX1_input 40 = .ok (.aload_n 0, 1) := by decide +kernel
theorem dX1_input_41 : decode cX1_input 41 = .ok (.getfield 107, 3) := by decide +kernel
theorem dX1_input_44 : decode cX1_input 44 = .ok (.getfield 256, 3) := by decide +kernel
theorem dX1_input_47 : decode cX1_input 47 = .ok (.iload_n 1, 1) := by decide +kernel
theorem dX1_input_48 : decode cX1_input 48 = .ok (.iaload, 1) := by decide +kernel
theorem dX1_input_49 : decode cX1_input 49 = .ok (.i2l, 1) := by decide +kernel
theorem dX1_input_50 : decode cX1_input 50 = .ok (.lreturn, 1) := by decide +kernel
theorem dX1_input_51 : decode cX1_input 51 = .ok (.aload_n 0, 1) := by decide +kernel
theorem dX1_input_52 : decode cX1_input 52 = .ok (.getfield 107, 3) := by decide +kernel
theorem dX1_input_55 : decode cX1_input 55 = .ok (.getfield 259, 3) := by decide +kernel
theorem dX1_input_58 : decode cX1_input 58 = .ok (.iload_n 1, 1) := by decide +kernel
theorem dX1_input_59 : decode cX1_input 59 = .ok (.iaload, 1) := by decide +kernel
theorem dX1_input_60 : decode cX1_input 60 = .ok (.i2l, 1) := by decide +kernel
theorem dX1_input_61 : decode cX1_input 61 = .ok (.lreturn, 1) := by decide +kernel
theorem dX1_input_62 : decode cX1_input 62 = .ok (.aload_n 0, 1) := by decide +kernel
theorem dX1_input_63 : decode cX1_input 63 = .ok (.getfield 51, 3) := by decide +kernel
theorem dX1_input_66 : decode cX1_input 66 = .ok (.iload_n 1, 1) := by decide +kernel
theorem dX1_input_67 : decode cX1_input 67 = .ok (.iaload, 1) := by decide +kernel
theorem dX1_input_68 : decode cX1_input 68 = .ok (.i2l, 1) := by decide +kernel
theorem dX1_input_69 : decode cX1_input 69 = .ok (.lconst 1, 1) := by decide +kernel
theorem dX1_input_70 : decode cX1_input 70 = .ok (.aload_n 0, 1) := by decide +kernel
theorem dX1_input_71 : decode cX1_input 71 = .ok (.getfield 107, 3) := by decide +kernel
theorem dX1_input_74 : decode cX1_input 74 = .ok (.getfield 259, 3) := by decide +kernel
theorem dX1_input_77 : decode cX1_input 77 = .ok (.iload_n 1, 1) := by decide +kernel
theorem dX1_input_78 : decode cX1_input 78 = .ok (.iaload, 1) := by decide +kernel
theorem dX1_input_79 : decode cX1_input 79 = .ok (.lshl, 1) := by decide +kernel
theorem dX1_input_80 : decode cX1_input 80 = .ok (.lconst 1, 1) := by decide +kernel
theorem dX1_input_81 : decode cX1_input 81 = .ok (.lsub, 1) := by decide +kernel
theorem dX1_input_82 : decode cX1_input 82 = .ok (.land, 1) := by decide +kernel
theorem dX1_input_83 : decode cX1_input 83 = .ok (.lreturn, 1) := by decide +kernel
theorem dX1_input_84 : decode cX1_input 84 = .ok (.ldc2_w 254, 3) := by decide +kernel
theorem dX1_input_87 : decode cX1_input 87 = .ok (.lreturn, 1) := by decide +kernel
theorem dX1_isInput_0 : decode cX1_isInput 0 = .ok (.aload_n 0, 1) := by decide +kernel
theorem dX1_isInput_1 : decode cX1_isInput 1 = .ok (.getfield 150, 3) := by decide +kernel
theorem dX1_isInput_4 : decode cX1_isInput 4 = .ok (.ifCond .eq 22, 3) := by decide +kernel
theorem dX1_isInput_7 : decode cX1_isInput 7 = .ok (.iload_n 1, 1) := by decide +kernel
theorem dX1_isInput_8 : decode cX1_isInput 8 = .ok (.ifCond .lt 18, 3) := by decide +kernel
theorem dX1_isInput_11 : decode cX1_isInput 11 = .ok (.iload_n 1, 1) := by decide +kernel
theorem dX1_isInput_12 : decode cX1_isInput 12 = .ok (.aload_n 0, 1) := by decide +kernel
theorem dX1_isInput_13 : decode cX1_isInput 13 = .ok (.getfield 107, 3) := by decide +kernel
theorem dX1_isInput_16 : decode cX1_isInput 16 = .ok (.getfield 203, 3) := by decide +kernel
theorem dX1_isInput_19 : decode cX1_isInput 19 = .ok (.if_icmp .ge 7, 3) := by decide +kernel
theorem dX1_isInput_22 : decode cX1_isInput 22 = .ok (.iconst 1, 1) := by decide +kernel
theorem dX1_isInput_23 : decode cX1_isInput 23 = .ok (.goto 4, 3) := by decide +kernel
theorem dX1_isInput_26 : decode cX1_isInput 26 = .ok (.iconst 0, 1) := by decide +kernel
theorem dX1_isInput_27 : decode cX1_isInput 27 = .ok (.ireturn, 1) := by decide +kernel
theorem dX1_give_0 : decode cX1_give 0 = .ok (.aload_n 0, 1) := by decide +kernel
theorem dX1_give_1 : decode cX1_give 1 = .ok (.iload_n 1, 1) := by decide +kernel
theorem dX1_give_2 : decode cX1_give 2 = .ok (.invokevirtual 251, 3) := by decide +kernel
theorem dX1_give_5 : decode cX1_give 5 = .ok (.ifCond .ne 5, 3) := by decide +kernel
theorem dX1_give_8 : decode cX1_give 8 = .ok (.iconst 0, 1) := by decide +kernel
theorem dX1_give_9 : decode cX1_give 9 = .ok (.ireturn, 1) := by decide +kernel
theorem dX1_give_10 : decode cX1_give 10 = .ok (.aload_n 0, 1) := by decide +kernel
theorem dX1_give_11 : decode cX1_give 11 = .ok (.getfield 51, 3) := by decide +kernel
theorem dX1_give_14 : decode cX1_give 14 = .ok (.iload_n 1, 1) := by decide +kernel
theorem dX1_give_15 : decode cX1_give 15 = .ok (.iload_n 2, 1) := by decide +kernel
theorem dX1_give_16 : decode cX1_give 16 = .ok (.iastore, 1) := by decide +kernel
theorem dX1_give_17 : decode cX1_give 17 = .ok (.iconst 1, 1) := by decide +kernel
theorem dX1_give_18 : decode cX1_give 18 = .ok (.ireturn, 1) := by decide +kernel
theorem dX1_seed_0 : decode cX1_seed 0 = .ok (.aload_n 0, 1) := by decide +kernel
theorem dX1_seed_1 : decode cX1_seed 1 = .ok (.getfield 47, 3) := by decide +kernel
theorem dX1_seed_4 : decode cX1_seed 4 = .ok (.iload_n 1, 1) := by decide +kernel
theorem dX1_seed_5 : decode cX1_seed 5 = .ok (.putfield 224, 3) := by decide +kernel
theorem dX1_seed_8 : decode cX1_seed 8 = .ok (.return_, 1) := by decide +kernel
theorem dX1_draws_0 : decode cX1_draws 0 = .ok (.iload_n 3, 1) := by decide +kernel
theorem dX1_draws_1 : decode cX1_draws 1 = .ok (.ifCond .lt 31, 3) := by decide +kernel
theorem dX1_draws_4 : decode cX1_draws 4 = .ok (.iload_n 3, 1) := by decide +kernel
theorem dX1_draws_5 : decode cX1_draws 5 = .ok (.bipush 64, 2) := by decide +kernel
theorem dX1_draws_7 : decode cX1_draws 7 = .ok (.if_icmp .gt 25, 3) := by decide +kernel
theorem dX1_draws_10 : decode cX1_draws 10 = .ok (.aload_n 0, 1) := by decide +kernel
theorem dX1_draws_11 : decode cX1_draws 11 = .ok (.getfield 47, 3) := by decide +kernel
theorem dX1_draws_14 : decode cX1_draws 14 = .ok (.lload_n 1, 1) := by decide +kernel
theorem dX1_draws_15 : decode cX1_draws 15 = .ok (.iload_n 3, 1) := by decide +kernel
theorem dX1_draws_16 : decode cX1_draws 16 = .ok (.invokevirtual 262, 3) := by decide +kernel
theorem dX1_draws_19 : decode cX1_draws 19 = .ok (.ifCond .eq 13, 3) := by decide +kernel
theorem dX1_draws_22 : decode cX1_draws 22 = .ok (.aload_n 0, 1) := by decide +kernel
theorem dX1_draws_23 : decode cX1_draws 23 = .ok (.getfield 47, 3) := by decide +kernel
theorem dX1_draws_26 : decode cX1_draws 26 = .ok (.getfield 223, 3) := by decide +kernel
theorem dX1_draws_29 : decode cX1_draws 29 = .ok (.goto 4, 3) := by decide +kernel
theorem dX1_draws_32 : decode cX1_draws 32 = .ok (.iconst (-1), 1) := by decide +kernel
theorem dX1_draws_33 : decode cX1_draws 33 = .ok (.ireturn, 1) := by decide +kernel
theorem dX1_deal_0 : decode cX1_deal 0 = .ok (.aload_n 0, 1) := by decide +kernel
theorem dX1_deal_1 : decode cX1_deal 1 = .ok (.getfield 150, 3) := by decide +kernel
theorem dX1_deal_4 : decode cX1_deal 4 = .ok (.ifCond .ne 5, 3) := by decide +kernel
theorem dX1_deal_7 : decode cX1_deal 7 = .ok (.iconst 0, 1) := by decide +kernel
theorem dX1_deal_8 : decode cX1_deal 8 = .ok (.ireturn, 1) := by decide +kernel
theorem dX1_deal_9 : decode cX1_deal 9 = .ok (.aload_n 0, 1) := by decide +kernel
theorem dX1_deal_10 : decode cX1_deal 10 = .ok (.invokevirtual 287, 3) := by decide +kernel
theorem dX1_deal_13 : decode cX1_deal 13 = .ok (.iconst 0, 1) := by decide +kernel
theorem dX1_deal_14 : decode cX1_deal 14 = .ok (.istore_n 1, 1) := by decide +kernel
theorem dX1_deal_15 : decode cX1_deal 15 = .ok (.iload_n 1, 1) := by decide +kernel
theorem dX1_deal_16 : decode cX1_deal 16 = .ok (.aload_n 0, 1) := by decide +kernel
theorem dX1_deal_17 : decode cX1_deal 17 = .ok (.getfield 40, 3) := by decide +kernel
theorem dX1_deal_20 : decode cX1_deal 20 = .ok (.getfield 191, 3) := by decide +kernel
theorem dX1_deal_23 : decode cX1_deal 23 = .ok (.if_icmp .ge 26, 3) := by decide +kernel
theorem dX1_deal_26 : decode cX1_deal 26 = .ok (.aload_n 0, 1) := by decide +kernel
theorem dX1_deal_27 : decode cX1_deal 27 = .ok (.getfield 40, 3) := by decide +kernel
theorem dX1_deal_30 : decode cX1_deal 30 = .ok (.getfield 227, 3) := by decide +kernel
theorem dX1_deal_33 : decode cX1_deal 33 = .ok (.iload_n 1, 1) := by decide +kernel
theorem dX1_deal_34 : decode cX1_deal 34 = .ok (.baload, 1) := by decide +kernel
theorem dX1_deal_35 : decode cX1_deal 35 = .ok (.ifCond .eq 8, 3) := by decide +kernel
theorem dX1_deal_38 : decode cX1_deal 38 = .ok (.aload_n 0, 1) := by decide +kernel
theorem dX1_deal_39 : decode cX1_deal 39 = .ok (.iload_n 1, 1) := by decide +kernel
theorem dX1_deal_40 : decode cX1_deal 40 = .ok (.invokevirtual 290, 3) := by decide +kernel
theorem dX1_deal_43 : decode cX1_deal 43 = .ok (.iinc 1 1, 3) := by decide +kernel
theorem dX1_deal_46 : decode cX1_deal 46 = .ok (.goto (-31), 3) := by decide +kernel
theorem dX1_deal_49 : decode cX1_deal 49 = .ok (.aload_n 0, 1) := by decide +kernel
theorem dX1_deal_50 : decode cX1_deal 50 = .ok (.iconst 1, 1) := by decide +kernel
theorem dX1_deal_51 : decode cX1_deal 51 = .ok (.putfield 154, 3) := by decide +kernel
theorem dX1_deal_54 : decode cX1_deal 54 = .ok (.aload_n 0, 1) := by decide +kernel
theorem dX1_deal_55 : decode cX1_deal 55 = .ok (.iconst 0, 1) := by decide +kernel
theorem dX1_deal_56 : decode cX1_deal 56 = .ok (.putfield 157, 3) := by decide +kernel
theorem dX1_deal_59 : decode cX1_deal 59 = .ok (.aload_n 0, 1) := by decide +kernel
theorem dX1_deal_60 : decode cX1_deal 60 = .ok (.iconst 0, 1) := by decide +kernel
theorem dX1_deal_61 : decode cX1_deal 61 = .ok (.putfield 160, 3) := by decide +kernel
theorem dX1_deal_64 : decode cX1_deal 64 = .ok (.iconst 0, 1) := by decide +kernel
theorem dX1_deal_65 : decode cX1_deal 65 = .ok (.istore_n 1, 1) := by decide +kernel
theorem dX1_deal_66 : decode cX1_deal 66 = .ok (.iload_n 1, 1) := by decide +kernel
theorem dX1_deal_67 : decode cX1_deal 67 = .ok (.aload_n 0, 1) := by decide +kernel
theorem dX1_deal_68 : decode cX1_deal 68 = .ok (.getfield 77, 3) := by decide +kernel
theorem dX1_deal_71 : decode cX1_deal 71 = .ok (.if_icmp .ge 18, 3) := by decide +kernel
theorem dX1_deal_74 : decode cX1_deal 74 = .ok (.aload_n 0, 1) := by decide +kernel
theorem dX1_deal_75 : decode cX1_deal 75 = .ok (.getfield 122, 3) := by decide +kernel
theorem dX1_deal_78 : decode cX1_deal 78 = .ok (.iload_n 1, 1) := by decide +kernel
theorem dX1_deal_79 : decode cX1_deal 79 = .ok (.aaload, 1) := by decide +kernel
theorem dX1_deal_80 : decode cX1_deal 80 = .ok (.invokevirtual 293, 3) := by decide +kernel
theorem dX1_deal_83 : decode cX1_deal 83 = .ok (.iinc 1 1, 3) := by decide +kernel
theorem dX1_deal_86 : decode cX1_deal 86 = .ok (.goto (-20), 3) := by decide +kernel
theorem dX1_deal_89 : decode cX1_deal 89 = .ok (.iconst 0, 1) := by decide +kernel
theorem dX1_deal_90 : decode cX1_deal 90 = .ok (.istore_n 1, 1) := by decide +kernel
theorem dX1_deal_91 : decode cX1_deal 91 = .ok (.iload_n 1, 1) := by decide +kernel
theorem dX1_deal_92 : decode cX1_deal 92 = .ok (.aload_n 0, 1) := by decide +kernel
theorem dX1_deal_93 : decode cX1_deal 93 = .ok (.getfield 77, 3) := by decide +kernel
theorem dX1_deal_96 : decode cX1_deal 96 = .ok (.if_icmp .ge 15, 3) := by decide +kernel
theorem dX1_deal_99 : decode cX1_deal 99 = .ok (.aload_n 0, 1) := by decide +kernel
theorem dX1_deal_100 : decode cX1_deal 100 = .ok (.iload_n 1, 1) := by decide +kernel
theorem dX1_deal_101 : decode cX1_deal 101 = .ok (.invokevirtual 296, 3) := by decide +kernel
theorem dX1_deal_104 : decode cX1_deal 104 = .ok (.istore_n 2, 1) := by decide +kernel
theorem dX1_deal_105 : decode cX1_deal 105 = .ok (.iinc 1 1, 3) := by decide +kernel
theorem dX1_deal_108 : decode cX1_deal 108 = .ok (.goto (-17), 3) := by decide +kernel
theorem dX1_deal_111 : decode cX1_deal 111 = .ok (.iconst 1, 1) := by decide +kernel
theorem dX1_deal_112 : decode cX1_deal 112 = .ok (.ireturn, 1) := by decide +kernel
theorem dX1_cutInputs_0 : decode cX1_cutInputs 0 = .ok (.iconst 0, 1) := by decide +kernel
theorem dX1_cutInputs_1 : decode cX1_cutInputs 1 = .ok (.istore_n 1, 1) := by decide +kernel
theorem dX1_cutInputs_2 : decode cX1_cutInputs 2 = .ok (.iload_n 1, 1) := by decide +kernel
theorem dX1_cutInputs_3 : decode cX1_cutInputs 3 = .ok (.aload_n 0, 1) := by decide +kernel
theorem dX1_cutInputs_4 : decode cX1_cutInputs 4 = .ok (.getfield 107, 3) := by decide +kernel
theorem dX1_cutInputs_7 : decode cX1_cutInputs 7 = .ok (.getfield 203, 3) := by decide +kernel
theorem dX1_cutInputs_10 : decode cX1_cutInputs 10 = .ok (.if_icmp .ge 151, 3) := by decide +kernel
theorem dX1_cutInputs_13 : decode cX1_cutInputs 13 = .ok (.iconst 0, 1) := by decide +kernel
theorem dX1_cutInputs_14 : decode cX1_cutInputs 14 = .ok (.istore_n 2, 1) := by decide +kernel
theorem dX1_cutInputs_15 : decode cX1_cutInputs 15 = .ok (.iload_n 2, 1) := by decide +kernel
theorem dX1_cutInputs_16 : decode cX1_cutInputs 16 = .ok (.aload_n 0, 1) := by decide +kernel
theorem dX1_cutInputs_17 : decode cX1_cutInputs 17 = .ok (.getfield 107, 3) := by decide +kernel
theorem dX1_cutInputs_20 : decode cX1_cutInputs 20 = .ok (.getfield 259, 3) := by decide +kernel
theorem dX1_cutInputs_23 : decode cX1_cutInputs 23 = .ok (.iload_n 1, 1) := by decide +kernel
theorem dX1_cutInputs_24 : decode cX1_cutInputs 24 = .ok (.iaload, 1) := by decide +kernel
theorem dX1_cutInputs_25 : decode cX1_cutInputs 25 = .ok (.if_icmp .ge 130, 3) := by decide +kernel
theorem dX1_cutInputs_28 : decode cX1_cutInputs 28 = .ok (.aload_n 0, 1) := by decide +kernel
theorem dX1_cutInputs_29 : decode cX1_cutInputs 29 = .ok (.getfield 107, 3) := by decide +kernel
theorem dX1_cutInputs_32 : decode cX1_cutInputs 32 = .ok (.getfield 266, 3) := by decide +kernel
theorem dX1_cutInputs_35 : decode cX1_cutInputs 35 = .ok (.iload_n 1, 1) := by decide +kernel
theorem dX1_cutInputs_36 : decode cX1_cutInputs 36 = .ok (.iaload, 1) := by decide +kernel
theorem dX1_cutInputs_37 : decode cX1_cutInputs 37 = .ok (.iload_n 2, 1) := by decide +kernel
theorem dX1_cutInputs_38 : decode cX1_cutInputs 38 = .ok (.iadd, 1) := by decide +kernel
theorem dX1_cutInputs_39 : decode cX1_cutInputs 39 = .ok (.istore_n 3, 1) := by decide +kernel
theorem dX1_cutInputs_40 : decode cX1_cutInputs 40 = .ok (.aload_n 0, 1) := by decide +kernel
theorem dX1_cutInputs_41 : decode cX1_cutInputs 41 = .ok (.getfield 107, 3) := by decide +kernel
theorem dX1_cutInputs_44 : decode cX1_cutInputs 44 = .ok (.getfield 256, 3) := by decide +kernel
theorem dX1_cutInputs_47 : decode cX1_cutInputs 47 = .ok (.iload_n 1, 1) := by decide +kernel
theorem dX1_cutInputs_48 : decode cX1_cutInputs 48 = .ok (.iaload, 1) := by decide +kernel
theorem dX1_cutInputs_49 : decode cX1_cutInputs 49 = .ok (.istore 4, 2) := by decide +kernel
theorem dX1_cutInputs_51 : decode cX1_cutInputs 51 = .ok (.aload_n 0, 1) := by decide +kernel
theorem dX1_cutInputs_52 : decode cX1_cutInputs 52 = .ok (.getfield 51, 3) := by decide +kernel
theorem dX1_cutInputs_55 : decode cX1_cutInputs 55 = .ok (.iload_n 1, 1) := by decide +kernel
theorem dX1_cutInputs_56 : decode cX1_cutInputs 56 = .ok (.iaload, 1) := by decide +kernel
theorem dX1_cutInputs_57 : decode cX1_cutInputs 57 = .ok (.iload_n 2, 1) := by decide +kernel
theorem dX1_cutInputs_58 : decode cX1_cutInputs 58 = .ok (.ishr, 1) := by decide +kernel
theorem dX1_cutInputs_59 : decode cX1_cutInputs 59 = .ok (.iconst 1, 1) := by decide +kernel
theorem dX1_cutInputs_60 : decode cX1_cutInputs 60 = .ok (.iand, 1) := by decide +kernel
theorem dX1_cutInputs_61 : decode cX1_cutInputs 61 = .ok (.istore 5, 2) := by decide +kernel
theorem dX1_cutInputs_63 : decode cX1_cutInputs 63 = .ok (.aload_n 0, 1) := by decide +kernel
theorem dX1_cutInputs_64 : decode cX1_cutInputs 64 = .ok (.getfield 60, 3) := by decide +kernel
theorem dX1_cutInputs_67 : decode cX1_cutInputs 67 = .ok (.iload_n 3, 1) := by decide +kernel
theorem dX1_cutInputs_68 : decode cX1_cutInputs 68 = .ok (.iload 5, 2) := by decide +kernel
theorem dX1_cutInputs_70 : decode cX1_cutInputs 70 = .ok (.invokevirtual 268, 3) := by decide +kernel
theorem dX1_cutInputs_73 : decode cX1_cutInputs 73 = .ok (.iconst 0, 1) := by decide +kernel
theorem dX1_cutInputs_74 : decode cX1_cutInputs 74 = .ok (.istore 6, 2) := by decide +kernel
theorem dX1_cutInputs_76 : decode cX1_cutInputs 76 = .ok (.iload 6, 2) := by decide +kernel
theorem dX1_cutInputs_78 : decode cX1_cutInputs 78 = .ok (.aload_n 0, 1) := by decide +kernel
theorem dX1_cutInputs_79 : decode cX1_cutInputs 79 = .ok (.getfield 77, 3) := by decide +kernel
theorem dX1_cutInputs_82 : decode cX1_cutInputs 82 = .ok (.if_icmp .ge 51, 3) := by decide +kernel
theorem dX1_cutInputs_85 : decode cX1_cutInputs 85 = .ok (.iload 6, 2) := by decide +kernel
theorem dX1_cutInputs_87 : decode cX1_cutInputs 87 = .ok (.iload 4, 2) := by decide +kernel
theorem dX1_cutInputs_89 : decode cX1_cutInputs 89 = .ok (.if_icmp .ne 6, 3) := by decide +kernel
theorem dX1_cutInputs_92 : decode cX1_cutInputs 92 = .ok (.goto 35, 3) := by decide +kernel
theorem dX1_cutInputs_95 : decode cX1_cutInputs 95 = .ok (.aload_n 0, 1) := by decide +kernel
theorem dX1_cutInputs_96 : decode cX1_cutInputs 96 = .ok (.getfield 47, 3) := by decide +kernel
theorem dX1_cutInputs_99 : decode cX1_cutInputs 99 = .ok (.invokevirtual 272, 3) := by decide +kernel
theorem dX1_cutInputs_102 : decode cX1_cutInputs 102 = .ok (.istore 7, 2) := by decide +kernel
theorem dX1_cutInputs_104 : decode cX1_cutInputs 104 = .ok (.aload_n 0, 1) := by decide +kernel
theorem dX1_cutInputs_105 : decode cX1_cutInputs 105 = .ok (.getfield 122, 3) := by decide +kernel
theorem dX1_cutInputs_108 : decode cX1_cutInputs 108 = .ok (.iload 6, 2) := by decide +kernel
theorem dX1_cutInputs_110 : decode cX1_cutInputs 110 = .ok (.aaload, 1) := by decide +kernel
theorem dX1_cutInputs_111 : decode cX1_cutInputs 111 = .ok (.getfield 275, 3) := by decide +kernel
theorem dX1_cutInputs_114 : decode cX1_cutInputs 114 = .ok (.iload_n 3, 1) := by decide +kernel
theorem dX1_cutInputs_115 : decode cX1_cutInputs 115 = .ok (.iload 7, 2) := by decide +kernel
theorem dX1_cutInputs_117 : decode cX1_cutInputs 117 = .ok (.invokevirtual 268, 3) := by decide +kernel
theorem dX1_cutInputs_120 : decode cX1_cutInputs 120 = .ok (.iload 5, 2) := by decide +kernel
theorem dX1_cutInputs_122 : decode cX1_cutInputs 122 = .ok (.iload 7, 2) := by decide +kernel
theorem dX1_cutInputs_124 : decode cX1_cutInputs 124 = .ok (.ixor, 1) := by decide +kernel
theorem dX1_cutInputs_125 : decode cX1_cutInputs 125 = .ok (.istore 5, 2) := by decide +kernel
theorem dX1_cutInputs_127 : decode cX1_cutInputs 127 = .ok (.iinc 6 1, 3) := by decide +kernel
theorem dX1_cutInputs_130 : decode cX1_cutInputs 130 = .ok (.goto (-54), 3) := by decide +kernel
theorem dX1_cutInputs_133 : decode cX1_cutInputs 133 = .ok (.aload_n 0, 1) := by decide +kernel
theorem dX1_cutInputs_134 : decode cX1_cutInputs 134 = .ok (.getfield 122, 3) := by decide +kernel
theorem dX1_cutInputs_137 : decode cX1_cutInputs 137 = .ok (.iload 4, 2) := by decide +kernel
theorem dX1_cutInputs_139 : decode cX1_cutInputs 139 = .ok (.aaload, 1) := by decide +kernel
theorem dX1_cutInputs_140 : decode cX1_cutInputs 140 = .ok (.getfield 275, 3) := by decide +kernel
theorem dX1_cutInputs_143 : decode cX1_cutInputs 143 = .ok (.iload_n 3, 1) := by decide +kernel
theorem dX1_cutInputs_144 : decode cX1_cutInputs 144 = .ok (.iload 5, 2) := by decide +kernel
theorem dX1_cutInputs_146 : decode cX1_cutInputs 146 = .ok (.invokevirtual 268, 3) := by decide +kernel
theorem dX1_cutInputs_149 : decode cX1_cutInputs 149 = .ok (.iinc 2 1, 3) := by decide +kernel
theorem dX1_cutInputs_152 : decode cX1_cutInputs 152 = .ok (.goto (-137), 3) := by decide +kernel
theorem dX1_cutInputs_155 : decode cX1_cutInputs 155 = .ok (.iinc 1 1, 3) := by decide +kernel
theorem dX1_cutInputs_158 : decode cX1_cutInputs 158 = .ok (.goto (-156), 3) := by decide +kernel
theorem dX1_cutInputs_161 : decode cX1_cutInputs 161 = .ok (.return_, 1) := by decide +kernel
theorem dX1_cutTriple_0 : decode cX1_cutTriple 0 = .ok (.iconst 0, 1) := by decide +kernel
theorem dX1_cutTriple_1 : decode cX1_cutTriple 1 = .ok (.istore_n 2, 1) := by decide +kernel
theorem dX1_cutTriple_2 : decode cX1_cutTriple 2 = .ok (.iconst 0, 1) := by decide +kernel
theorem dX1_cutTriple_3 : decode cX1_cutTriple 3 = .ok (.istore_n 3, 1) := by decide +kernel
theorem dX1_cutTriple_4 : decode cX1_cutTriple 4 = .ok (.iconst 0, 1) := by decide +kernel
theorem dX1_cutTriple_5 : decode cX1_cutTriple 5 = .ok (.istore 4, 2) := by decide +kernel
theorem dX1_cutTriple_7 : decode cX1_cutTriple 7 = .ok (.iload 4, 2) := by decide +kernel
theorem dX1_cutTriple_9 : decode cX1_cutTriple 9 = .ok (.aload_n 0, 1) := by decide +kernel
theorem dX1_cutTriple_10 : decode cX1_cutTriple 10 = .ok (.getfield 77, 3) := by decide +kernel
theorem dX1_cutTriple_13 : decode cX1_cutTriple 13 = .ok (.if_icmp .ge 39, 3) := by decide +kernel
theorem dX1_cutTriple_16 : decode cX1_cutTriple 16 = .ok (.aload_n 0, 1) := by decide +kernel
theorem dX1_cutTriple_17 : decode cX1_cutTriple 17 = .ok (.getfield 47, 3) := by decide +kernel
theorem dX1_cutTriple_20 : decode cX1_cutTriple 20 = .ok (.invokevirtual 272, 3) := by decide +kernel
theorem dX1_cutTriple_23 : decode cX1_cutTriple 23 = .ok (.istore 5, 2) := by decide +kernel
theorem dX1_cutTriple_25 : decode cX1_cutTriple 25 = .ok (.aload_n 0, 1) := by decide +kernel
theorem dX1_cutTriple_26 : decode cX1_cutTriple 26 = .ok (.getfield 122, 3) := by decide +kernel
theorem dX1_cutTriple_29 : decode cX1_cutTriple 29 = .ok (.iload 4, 2) := by decide +kernel
theorem dX1_cutTriple_31 : decode cX1_cutTriple 31 = .ok (.aaload, 1) := by decide +kernel
theorem dX1_cutTriple_32 : decode cX1_cutTriple 32 = .ok (.getfield 278, 3) := by decide +kernel
theorem dX1_cutTriple_35 : decode cX1_cutTriple 35 = .ok (.iload_n 1, 1) := by decide +kernel
theorem dX1_cutTriple_36 : decode cX1_cutTriple 36 = .ok (.iload 5, 2) := by decide +kernel
theorem dX1_cutTriple_38 : decode cX1_cutTriple 38 = .ok (.invokevirtual 268, 3) := by decide +kernel
theorem dX1_cutTriple_41 : decode cX1_cutTriple 41 = .ok (.iload_n 2, 1) := by decide +kernel
theorem dX1_cutTriple_42 : decode cX1_cutTriple 42 = .ok (.iload 5, 2) := by decide +kernel
theorem dX1_cutTriple_44 : decode cX1_cutTriple 44 = .ok (.ixor, 1) := by decide +kernel
theorem dX1_cutTriple_45 : decode cX1_cutTriple 45 = .ok (.istore_n 2, 1) := by decide +kernel
theorem dX1_cutTriple_46 : decode cX1_cutTriple 46 = .ok (.iinc 4 1, 3) := by decide +kernel
theorem dX1_cutTriple_49 : decode cX1_cutTriple 49 = .ok (.goto (-42), 3) := by decide +kernel
theorem dX1_cutTriple_52 : decode cX1_cutTriple 52 = .ok (.iconst 0, 1) := by decide +kernel
theorem dX1_cutTriple_53 : decode cX1_cutTriple 53 = .ok (.istore 4, 2) := by decide +kernel
theorem dX1_cutTriple_55 : decode cX1_cutTriple 55 = .ok (.iload 4, 2) := by decide +kernel
theorem dX1_cutTriple_57 : decode cX1_cutTriple 57 = .ok (.aload_n 0, 1) := by decide +kernel
theorem dX1_cutTriple_58 : decode cX1_cutTriple 58 = .ok (.getfield 77, 3) := by decide +kernel
theorem dX1_cutTriple_61 : decode cX1_cutTriple 61 = .ok (.if_icmp .ge 39, 3) := by decide +kernel
theorem dX1_cutTriple_64 : decode cX1_cutTriple 64 = .ok (.aload_n 0, 1) := by decide +kernel
theorem dX1_cutTriple_65 : decode cX1_cutTriple 65 = .ok (.getfield 47, 3) := by decide +kernel
theorem dX1_cutTriple_68 : decode cX1_cutTriple 68 = .ok (.invokevirtual 272, 3) := by decide +kernel
theorem dX1_cutTriple_71 : decode cX1_cutTriple 71 = .ok (.istore 5, 2) := by decide +kernel
theorem dX1_cutTriple_73 : decode cX1_cutTriple 73 = .ok (.aload_n 0, 1) := by decide +kernel
theorem dX1_cutTriple_74 : decode cX1_cutTriple 74 = .ok (.getfield 122, 3) := by decide +kernel
theorem dX1_cutTriple_77 : decode cX1_cutTriple 77 = .ok (.iload 4, 2) := by decide +kernel
theorem dX1_cutTriple_79 : decode cX1_cutTriple 79 = .ok (.aaload, 1) := by decide +kernel
theorem dX1_cutTriple_80 : decode cX1_cutTriple 80 = .ok (.getfield 281, 3) := by decide +kernel
theorem dX1_cutTriple_83 : decode cX1_cutTriple 83 = .ok (.iload_n 1, 1) := by decide +kernel
theorem dX1_cutTriple_84 : decode cX1_cutTriple 84 = .ok (.iload 5, 2) := by decide +kernel
theorem dX1_cutTriple_86 : decode cX1_cutTriple 86 = .ok (.invokevirtual 268, 3) := by decide +kernel
theorem dX1_cutTriple_89 : decode cX1_cutTriple 89 = .ok (.iload_n 3, 1) := by decide +kernel
theorem dX1_cutTriple_90 : decode cX1_cutTriple 90 = .ok (.iload 5, 2) := by decide +kernel
theorem dX1_cutTriple_92 : decode cX1_cutTriple 92 = .ok (.ixor, 1) := by decide +kernel
theorem dX1_cutTriple_93 : decode cX1_cutTriple 93 = .ok (.istore_n 3, 1) := by decide +kernel
theorem dX1_cutTriple_94 : decode cX1_cutTriple 94 = .ok (.iinc 4 1, 3) := by decide +kernel
theorem dX1_cutTriple_97 : decode cX1_cutTriple 97 = .ok (.goto (-42), 3) := by decide +kernel
theorem dX1_cutTriple_100 : decode cX1_cutTriple 100 = .ok (.iload_n 2, 1) := by decide +kernel
theorem dX1_cutTriple_101 : decode cX1_cutTriple 101 = .ok (.iload_n 3, 1) := by decide +kernel
theorem dX1_cutTriple_102 : decode cX1_cutTriple 102 = .ok (.iand, 1) := by decide +kernel
theorem dX1_cutTriple_103 : decode cX1_cutTriple 103 = .ok (.istore 4, 2) := by decide +kernel
theorem dX1_cutTriple_105 : decode cX1_cutTriple 105 = .ok (.iconst 1, 1) := by decide +kernel
theorem dX1_cutTriple_106 : decode cX1_cutTriple 106 = .ok (.istore 5, 2) := by decide +kernel
theorem dX1_cutTriple_108 : decode cX1_cutTriple 108 = .ok (.iload 5, 2) := by decide +kernel
theorem dX1_cutTriple_110 : decode cX1_cutTriple 110 = .ok (.aload_n 0, 1) := by decide +kernel
theorem dX1_cutTriple_111 : decode cX1_cutTriple 111 = .ok (.getfield 77, 3) := by decide +kernel
theorem dX1_cutTriple_114 : decode cX1_cutTriple 114 = .ok (.if_icmp .ge 41, 3) := by decide +kernel
theorem dX1_cutTriple_117 : decode cX1_cutTriple 117 = .ok (.aload_n 0, 1) := by decide +kernel
theorem dX1_cutTriple_118 : decode cX1_cutTriple 118 = .ok (.getfield 47, 3) := by decide +kernel
theorem dX1_cutTriple_121 : decode cX1_cutTriple 121 = .ok (.invokevirtual 272, 3) := by decide +kernel
theorem dX1_cutTriple_124 : decode cX1_cutTriple 124 = .ok (.istore 6, 2) := by decide +kernel
theorem dX1_cutTriple_126 : decode cX1_cutTriple 126 = .ok (.aload_n 0, 1) := by decide +kernel
theorem dX1_cutTriple_127 : decode cX1_cutTriple 127 = .ok (.getfield 122, 3) := by decide +kernel
theorem dX1_cutTriple_130 : decode cX1_cutTriple 130 = .ok (.iload 5, 2) := by decide +kernel
theorem dX1_cutTriple_132 : decode cX1_cutTriple 132 = .ok (.aaload, 1) := by decide +kernel
theorem dX1_cutTriple_133 : decode cX1_cutTriple 133 = .ok (.getfield 284, 3) := by decide +kernel
theorem dX1_cutTriple_136 : decode cX1_cutTriple 136 = .ok (.iload_n 1, 1) := by decide +kernel
theorem dX1_cutTriple_137 : decode cX1_cutTriple 137 = .ok (.iload 6, 2) := by decide +kernel
theorem dX1_cutTriple_139 : decode cX1_cutTriple 139 = .ok (.invokevirtual 268, 3) := by decide +kernel
theorem dX1_cutTriple_142 : decode cX1_cutTriple 142 = .ok (.iload 4, 2) := by decide +kernel
theorem dX1_cutTriple_144 : decode cX1_cutTriple 144 = .ok (.iload 6, 2) := by decide +kernel
theorem dX1_cutTriple_146 : decode cX1_cutTriple 146 = .ok (.ixor, 1) := by decide +kernel
theorem dX1_cutTriple_147 : decode cX1_cutTriple 147 = .ok (.istore 4, 2) := by decide +kernel
theorem dX1_cutTriple_149 : decode cX1_cutTriple 149 = .ok (.iinc 5 1, 3) := by decide +kernel
theorem dX1_cutTriple_152 : decode cX1_cutTriple 152 = .ok (.goto (-44), 3) := by decide +kernel
theorem dX1_cutTriple_155 : decode cX1_cutTriple 155 = .ok (.aload_n 0, 1) := by decide +kernel
theorem dX1_cutTriple_156 : decode cX1_cutTriple 156 = .ok (.getfield 122, 3) := by decide +kernel
theorem dX1_cutTriple_159 : decode cX1_cutTriple 159 = .ok (.iconst 0, 1) := by decide +kernel
theorem dX1_cutTriple_160 : decode cX1_cutTriple 160 = .ok (.aaload, 1) := by decide +kernel
theorem dX1_cutTriple_161 : decode cX1_cutTriple 161 = .ok (.getfield 284, 3) := by decide +kernel
theorem dX1_cutTriple_164 : decode cX1_cutTriple 164 = .ok (.iload_n 1, 1) := by decide +kernel
theorem dX1_cutTriple_165 : decode cX1_cutTriple 165 = .ok (.iload 4, 2) := by decide +kernel
theorem dX1_cutTriple_167 : decode cX1_cutTriple 167 = .ok (.invokevirtual 268, 3) := by decide +kernel
theorem dX1_cutTriple_170 : decode cX1_cutTriple 170 = .ok (.return_, 1) := by decide +kernel
theorem dX1_send_0 : decode cX1_send 0 = .ok (.iconst 0, 1) := by decide +kernel
theorem dX1_send_1 : decode cX1_send 1 = .ok (.istore_n 2, 1) := by decide +kernel
theorem dX1_send_2 : decode cX1_send 2 = .ok (.iload_n 2, 1) := by decide +kernel
theorem dX1_send_3 : decode cX1_send 3 = .ok (.aload_n 0, 1) := by decide +kernel
theorem dX1_send_4 : decode cX1_send 4 = .ok (.getfield 77, 3) := by decide +kernel
theorem dX1_send_7 : decode cX1_send 7 = .ok (.if_icmp .ge 65, 3) := by decide +kernel
theorem dX1_send_10 : decode cX1_send 10 = .ok (.iload_n 2, 1) := by decide +kernel
theorem dX1_send_11 : decode cX1_send 11 = .ok (.iload_n 1, 1) := by decide +kernel
theorem dX1_send_12 : decode cX1_send 12 = .ok (.if_icmp .ne 6, 3) := by decide +kernel
theorem dX1_send_15 : decode cX1_send 15 = .ok (.goto 51, 3) := by decide +kernel
theorem dX1_send_18 : decode cX1_send 18 = .ok (.aload_n 0, 1) := by decide +kernel
theorem dX1_send_19 : decode cX1_send 19 = .ok (.getfield 129, 3) := by decide +kernel
theorem dX1_send_22 : decode cX1_send 22 = .ok (.aload_n 0, 1) := by decide +kernel
theorem dX1_send_23 : decode cX1_send 23 = .ok (.getfield 157, 3) := by decide +kernel
theorem dX1_send_26 : decode cX1_send 26 = .ok (.iload_n 1, 1) := by decide +kernel
theorem dX1_send_27 : decode cX1_send 27 = .ok (.iastore, 1) := by decide +kernel
theorem dX1_send_28 : decode cX1_send 28 = .ok (.aload_n 0, 1) := by decide +kernel
theorem dX1_send_29 : decode cX1_send 29 = .ok (.getfield 132, 3) := by decide +kernel
theorem dX1_send_32 : decode cX1_send 32 = .ok (.aload_n 0, 1) := by decide +kernel
theorem dX1_send_33 : decode cX1_send 33 = .ok (.getfield 157, 3) := by decide +kernel
theorem dX1_send_36 : decode cX1_send 36 = .ok (.iload_n 2, 1) := by decide +kernel
theorem dX1_send_37 : decode cX1_send 37 = .ok (.iastore, 1) := by decide +kernel
theorem dX1_send_38 : decode cX1_send 38 = .ok (.aload_n 0, 1) := by decide +kernel
theorem dX1_send_39 : decode cX1_send 39 = .ok (.getfield 135, 3) := by decide +kernel
theorem dX1_send_42 : decode cX1_send 42 = .ok (.aload_n 0, 1) := by decide +kernel
theorem dX1_send_43 : decode cX1_send 43 = .ok (.getfield 157, 3) := by decide +kernel
theorem dX1_send_46 : decode cX1_send 46 = .ok (.aload_n 0, 1) := by decide +kernel
theorem dX1_send_47 : decode cX1_send 47 = .ok (.getfield 122, 3) := by decide +kernel
theorem dX1_send_50 : decode cX1_send 50 = .ok (.iload_n 1, 1) := by decide +kernel
theorem dX1_send_51 : decode cX1_send 51 = .ok (.aaload, 1) := by decide +kernel
theorem dX1_send_52 : decode cX1_send 52 = .ok (.getfield 299, 3) := by decide +kernel
theorem dX1_send_55 : decode cX1_send 55 = .ok (.iastore, 1) := by decide +kernel
theorem dX1_send_56 : decode cX1_send 56 = .ok (.aload_n 0, 1) := by decide +kernel
theorem dX1_send_57 : decode cX1_send 57 = .ok (.dup, 1) := by decide +kernel
theorem dX1_send_58 : decode cX1_send 58 = .ok (.getfield 157, 3) := by decide +kernel
theorem dX1_send_61 : decode cX1_send 61 = .ok (.iconst 1, 1) := by decide +kernel
theorem dX1_send_62 : decode cX1_send 62 = .ok (.iadd, 1) := by decide +kernel
theorem dX1_send_63 : decode cX1_send 63 = .ok (.putfield 157, 3) := by decide +kernel
theorem dX1_send_66 : decode cX1_send 66 = .ok (.iinc 2 1, 3) := by decide +kernel
theorem dX1_send_69 : decode cX1_send 69 = .ok (.goto (-67), 3) := by decide +kernel
theorem dX1_send_72 : decode cX1_send 72 = .ok (.aload_n 0, 1) := by decide +kernel
theorem dX1_send_73 : decode cX1_send 73 = .ok (.getfield 77, 3) := by decide +kernel
theorem dX1_send_76 : decode cX1_send 76 = .ok (.iconst 1, 1) := by decide +kernel
theorem dX1_send_77 : decode cX1_send 77 = .ok (.isub, 1) := by decide +kernel
theorem dX1_send_78 : decode cX1_send 78 = .ok (.ireturn, 1) := by decide +kernel
theorem dX1_message_0 : decode cX1_message 0 = .ok (.iload_n 1, 1) := by decide +kernel
theorem dX1_message_1 : decode cX1_message 1 = .ok (.ifCond .lt 11, 3) := by decide +kernel
theorem dX1_message_4 : decode cX1_message 4 = .ok (.iload_n 1, 1) := by decide +kernel
theorem dX1_message_5 : decode cX1_message 5 = .ok (.aload_n 0, 1) := by decide +kernel
theorem dX1_message_6 : decode cX1_message 6 = .ok (.getfield 157, 3) := by decide +kernel
theorem dX1_message_9 : decode cX1_message 9 = .ok (.if_icmp .lt 5, 3) := by decide +kernel
theorem dX1_message_12 : decode cX1_message 12 = .ok (.iconst (-1), 1) := by decide +kernel
theorem dX1_message_13 : decode cX1_message 13 = .ok (.ireturn, 1) := by decide +kernel
theorem dX1_message_14 : decode cX1_message 14 = .ok (.aload_n 0, 1) := by decide +kernel
theorem dX1_message_15 : decode cX1_message 15 = .ok (.getfield 116, 3) := by decide +kernel
theorem dX1_message_18 : decode cX1_message 18 = .ok (.aload_n 0, 1) := by decide +kernel
theorem dX1_message_19 : decode cX1_message 19 = .ok (.getfield 129, 3) := by decide +kernel
theorem dX1_message_22 : decode cX1_message 22 = .ok (.iload_n 1, 1) := by decide +kernel
theorem dX1_message_23 : decode cX1_message 23 = .ok (.iaload, 1) := by decide +kernel
theorem dX1_message_24 : decode cX1_message 24 = .ok (.aload_n 0, 1) := by decide +kernel
theorem dX1_message_25 : decode cX1_message 25 = .ok (.getfield 135, 3) := by decide +kernel
theorem dX1_message_28 : decode cX1_message 28 = .ok (.iload_n 1, 1) := by decide +kernel
theorem dX1_message_29 : decode cX1_message 29 = .ok (.iaload, 1) := by decide +kernel
theorem dX1_message_30 : decode cX1_message 30 = .ok (.invokevirtual 302, 3) := by decide +kernel
theorem dX1_message_33 : decode cX1_message 33 = .ok (.istore_n 3, 1) := by decide +kernel
theorem dX1_message_34 : decode cX1_message 34 = .ok (.iload_n 2, 1) := by decide +kernel
theorem dX1_message_35 : decode cX1_message 35 = .ok (.tableswitch 52 0 3 #[29, 36, 43, 50], 29) := by decide +kernel
theorem dX1_message_64 : decode cX1_message 64 = .ok (.aload_n 0, 1) := by decide +kernel
theorem dX1_message_65 : decode cX1_message 65 = .ok (.getfield 129, 3) := by decide +kernel
theorem dX1_message_68 : decode cX1_message 68 = .ok (.iload_n 1, 1) := by decide +kernel
theorem dX1_message_69 : decode cX1_message 69 = .ok (.iaload, 1) := by decide +kernel
theorem dX1_message_70 : decode cX1_message 70 = .ok (.ireturn, 1) := by decide +kernel
theorem dX1_message_71 : decode cX1_message 71 = .ok (.aload_n 0, 1) := by decide +kernel
theorem dX1_message_72 : decode cX1_message 72 = .ok (.getfield 132, 3) := by decide +kernel
theorem dX1_message_75 : decode cX1_message 75 = .ok (.iload_n 1, 1) := by decide +kernel
theorem dX1_message_76 : decode cX1_message 76 = .ok (.iaload, 1) := by decide +kernel
theorem dX1_message_77 : decode cX1_message 77 = .ok (.ireturn, 1) := by decide +kernel
theorem dX1_message_78 : decode cX1_message 78 = .ok (.aload_n 0, 1) := by decide +kernel
theorem dX1_message_79 : decode cX1_message 79 = .ok (.getfield 135, 3) := by decide +kernel
theorem dX1_message_82 : decode cX1_message 82 = .ok (.iload_n 1, 1) := by decide +kernel
theorem dX1_message_83 : decode cX1_message 83 = .ok (.iaload, 1) := by decide +kernel
theorem dX1_message_84 : decode cX1_message 84 = .ok (.ireturn, 1) := by decide +kernel
theorem dX1_message_85 : decode cX1_message 85 = .ok (.iload_n 3, 1) := by decide +kernel
theorem dX1_message_86 : decode cX1_message 86 = .ok (.ireturn, 1) := by decide +kernel
theorem dX1_message_87 : decode cX1_message 87 = .ok (.iload_n 2, 1) := by decide +kernel
theorem dX1_message_88 : decode cX1_message 88 = .ok (.iconst 4, 1) := by decide +kernel
theorem dX1_message_89 : decode cX1_message 89 = .ok (.if_icmp .lt 47, 3) := by decide +kernel
theorem dX1_message_92 : decode cX1_message 92 = .ok (.iload_n 2, 1) := by decide +kernel
theorem dX1_message_93 : decode cX1_message 93 = .ok (.iconst 4, 1) := by decide +kernel
theorem dX1_message_94 : decode cX1_message 94 = .ok (.isub, 1) := by decide +kernel
theorem dX1_message_95 : decode cX1_message 95 = .ok (.iload_n 3, 1) := by decide +kernel
theorem dX1_message_96 : decode cX1_message 96 = .ok (.if_icmp .ge 40, 3) := by decide +kernel
theorem dX1_message_99 : decode cX1_message 99 = .ok (.aload_n 0, 1) := by decide +kernel
theorem dX1_message_100 : decode cX1_message 100 = .ok (.getfield 122, 3) := by decide +kernel
theorem dX1_message_103 : decode cX1_message 103 = .ok (.aload_n 0, 1) := by decide +kernel
theorem dX1_message_104 : decode cX1_message 104 = .ok (.getfield 129, 3) := by decide +kernel
theorem dX1_message_107 : decode cX1_message 107 = .ok (.iload_n 1, 1) := by decide +kernel
theorem dX1_message_108 : decode cX1_message 108 = .ok (.iaload, 1) := by decide +kernel
theorem dX1_message_109 : decode cX1_message 109 = .ok (.aaload, 1) := by decide +kernel
theorem dX1_message_110 : decode cX1_message 110 = .ok (.aload_n 0, 1) := by decide +kernel
theorem dX1_message_111 : decode cX1_message 111 = .ok (.getfield 122, 3) := by decide +kernel
theorem dX1_message_114 : decode cX1_message 114 = .ok (.aload_n 0, 1) := by decide +kernel
theorem dX1_message_115 : decode cX1_message 115 = .ok (.getfield 132, 3) := by decide +kernel
theorem dX1_message_118 : decode cX1_message 118 = .ok (.iload_n 1, 1) := by decide +kernel
theorem dX1_message_119 : decode cX1_message 119 = .ok (.iaload, 1) := by decide +kernel
theorem dX1_message_120 : decode cX1_message 120 = .ok (.aaload, 1) := by decide +kernel
theorem dX1_message_121 : decode cX1_message 121 = .ok (.aload_n 0, 1) := by decide +kernel
theorem dX1_message_122 : decode cX1_message 122 = .ok (.getfield 135, 3) := by decide +kernel
theorem dX1_message_125 : decode cX1_message 125 = .ok (.iload_n 1, 1) := by decide +kernel
theorem dX1_message_126 : decode cX1_message 126 = .ok (.iaload, 1) := by decide +kernel
theorem dX1_message_127 : decode cX1_message 127 = .ok (.iload_n 2, 1) := by decide +kernel
theorem dX1_message_128 : decode cX1_message 128 = .ok (.iconst 4, 1) := by decide +kernel
theorem dX1_message_129 : decode cX1_message 129 = .ok (.isub, 1) := by decide +kernel
theorem dX1_message_130 : decode cX1_message 130 = .ok (.invokevirtual 305, 3) := by decide +kernel
theorem dX1_message_133 : decode cX1_message 133 = .ok (.goto 4, 3) := by decide +kernel
theorem dX1_message_136 : decode cX1_message 136 = .ok (.iconst (-1), 1) := by decide +kernel
theorem dX1_message_137 : decode cX1_message 137 = .ok (.ireturn, 1) := by decide +kernel
theorem dX1_deliver_0 : decode cX1_deliver 0 = .ok (.iload_n 1, 1) := by decide +kernel
theorem dX1_deliver_1 : decode cX1_deliver 1 = .ok (.ifCond .lt 11, 3) := by decide +kernel
theorem dX1_deliver_4 : decode cX1_deliver 4 = .ok (.iload_n 1, 1) := by decide +kernel
theorem dX1_deliver_5 : decode cX1_deliver 5 = .ok (.aload_n 0, 1) := by decide +kernel
theorem dX1_deliver_6 : decode cX1_deliver 6 = .ok (.getfield 157, 3) := by decide +kernel
theorem dX1_deliver_9 : decode cX1_deliver 9 = .ok (.if_icmp .lt 5, 3) := by decide +kernel
theorem dX1_deliver_12 : decode cX1_deliver 12 = .ok (.iconst (-1), 1) := by decide +kernel
theorem dX1_deliver_13 : decode cX1_deliver 13 = .ok (.ireturn, 1) := by decide +kernel
theorem dX1_deliver_14 : decode cX1_deliver 14 = .ok (.aload_n 0, 1) := by decide +kernel
theorem dX1_deliver_15 : decode cX1_deliver 15 = .ok (.getfield 129, 3) := by decide +kernel
theorem dX1_deliver_18 : decode cX1_deliver 18 = .ok (.iload_n 1, 1) := by decide +kernel
theorem dX1_deliver_19 : decode cX1_deliver 19 = .ok (.iaload, 1) := by decide +kernel
theorem dX1_deliver_20 : decode cX1_deliver 20 = .ok (.istore_n 2, 1) := by decide +kernel
theorem dX1_deliver_21 : decode cX1_deliver 21 = .ok (.aload_n 0, 1) := by decide +kernel
theorem dX1_deliver_22 : decode cX1_deliver 22 = .ok (.getfield 135, 3) := by decide +kernel
theorem dX1_deliver_25 : decode cX1_deliver 25 = .ok (.iload_n 1, 1) := by decide +kernel
theorem dX1_deliver_26 : decode cX1_deliver 26 = .ok (.iaload, 1) := by decide +kernel
theorem dX1_deliver_27 : decode cX1_deliver 27 = .ok (.istore_n 3, 1) := by decide +kernel
theorem dX1_deliver_28 : decode cX1_deliver 28 = .ok (.aload_n 0, 1) := by decide +kernel
theorem dX1_deliver_29 : decode cX1_deliver 29 = .ok (.getfield 122, 3) := by decide +kernel
theorem dX1_deliver_32 : decode cX1_deliver 32 = .ok (.aload_n 0, 1) := by decide +kernel
theorem dX1_deliver_33 : decode cX1_deliver 33 = .ok (.getfield 132, 3) := by decide +kernel
theorem dX1_deliver_36 : decode cX1_deliver 36 = .ok (.iload_n 1, 1) := by decide +kernel
theorem dX1_deliver_37 : decode cX1_deliver 37 = .ok (.iaload, 1) := by decide +kernel
theorem dX1_deliver_38 : decode cX1_deliver 38 = .ok (.aaload, 1) := by decide +kernel
theorem dX1_deliver_39 : decode cX1_deliver 39 = .ok (.astore 4, 2) := by decide +kernel
theorem dX1_deliver_41 : decode cX1_deliver 41 = .ok (.aload_n 0, 1) := by decide +kernel
theorem dX1_deliver_42 : decode cX1_deliver 42 = .ok (.dup, 1) := by decide +kernel
theorem dX1_deliver_43 : decode cX1_deliver 43 = .ok (.getfield 157, 3) := by decide +kernel
theorem dX1_deliver_46 : decode cX1_deliver 46 = .ok (.iconst 1, 1) := by decide +kernel
theorem dX1_deliver_47 : decode cX1_deliver 47 = .ok (.isub, 1) := by decide +kernel
theorem dX1_deliver_48 : decode cX1_deliver 48 = .ok (.putfield 157, 3) := by decide +kernel
theorem dX1_deliver_51 : decode cX1_deliver 51 = .ok (.iload_n 1, 1) := by decide +kernel
theorem dX1_deliver_52 : decode cX1_deliver 52 = .ok (.istore 5, 2) := by decide +kernel
theorem dX1_deliver_54 : decode cX1_deliver 54 = .ok (.iload 5, 2) := by decide +kernel
theorem dX1_deliver_56 : decode cX1_deliver 56 = .ok (.aload_n 0, 1) := by decide +kernel
theorem dX1_deliver_57 : decode cX1_deliver 57 = .ok (.getfield 157, 3) := by decide +kernel
theorem dX1_deliver_60 : decode cX1_deliver 60 = .ok (.if_icmp .ge 57, 3) := by decide +kernel
theorem dX1_deliver_63 : decode cX1_deliver 63 = .ok (.aload_n 0, 1) := by decide +kernel
theorem dX1_deliver_64 : decode cX1_deliver 64 = .ok (.getfield 129, 3) := by decide +kernel
theorem dX1_deliver_67 : decode cX1_deliver 67 = .ok (.iload 5, 2) := by decide +kernel
theorem dX1_deliver_69 : decode cX1_deliver 69 = .ok (.aload_n 0, 1) := by decide +kernel
theorem dX1_deliver_70 : decode cX1_deliver 70 = .ok (.getfield 129, 3) := by decide +kernel
theorem dX1_deliver_73 : decode cX1_deliver 73 = .ok (.iload 5, 2) := by decide +kernel
theorem dX1_deliver_75 : decode cX1_deliver 75 = .ok (.iconst 1, 1) := by decide +kernel
theorem dX1_deliver_76 : decode cX1_deliver 76 = .ok (.iadd, 1) := by decide +kernel
theorem dX1_deliver_77 : decode cX1_deliver 77 = .ok (.iaload, 1) := by decide +kernel
theorem dX1_deliver_78 : decode cX1_deliver 78 = .ok (.iastore, 1) := by decide +kernel
theorem dX1_deliver_79 : decode cX1_deliver 79 = .ok (.aload_n 0, 1) := by decide +kernel
theorem dX1_deliver_80 : decode cX1_deliver 80 = .ok (.getfield 132, 3) := by decide +kernel
theorem dX1_deliver_83 : decode cX1_deliver 83 = .ok (.iload 5, 2) := by decide +kernel
theorem dX1_deliver_85 : decode cX1_deliver 85 = .ok (.aload_n 0, 1) := by decide +kernel
theorem dX1_deliver_86 : decode cX1_deliver 86 = .ok (.getfield 132, 3) := by decide +kernel
theorem dX1_deliver_89 : decode cX1_deliver 89 = .ok (.iload 5, 2) := by decide +kernel
theorem dX1_deliver_91 : decode cX1_deliver 91 = .ok (.iconst 1, 1) := by decide +kernel
theorem dX1_deliver_92 : decode cX1_deliver 92 = .ok (.iadd, 1) := by decide +kernel
theorem dX1_deliver_93 : decode cX1_deliver 93 = .ok (.iaload, 1) := by decide +kernel
theorem dX1_deliver_94 : decode cX1_deliver 94 = .ok (.iastore, 1) := by decide +kernel
theorem dX1_deliver_95 : decode cX1_deliver 95 = .ok (.aload_n 0, 1) := by decide +kernel
theorem dX1_deliver_96 : decode cX1_deliver 96 = .ok (.getfield 135, 3) := by decide +kernel
theorem dX1_deliver_99 : decode cX1_deliver 99 = .ok (.iload 5, 2) := by decide +kernel
theorem dX1_deliver_101 : decode cX1_deliver 101 = .ok (.aload_n 0, 1) := by decide +kernel
theorem dX1_deliver_102 : decode cX1_deliver 102 = .ok (.getfield 135, 3) := by decide +kernel
theorem dX1_deliver_105 : decode cX1_deliver 105 = .ok (.iload 5, 2) := by decide +kernel
theorem dX1_deliver_107 : decode cX1_deliver 107 = .ok (.iconst 1, 1) := by decide +kernel
theorem dX1_deliver_108 : decode cX1_deliver 108 = .ok (.iadd, 1) := by decide +kernel
theorem dX1_deliver_109 : decode cX1_deliver 109 = .ok (.iaload, 1) := by decide +kernel
theorem dX1_deliver_110 : decode cX1_deliver 110 = .ok (.iastore, 1) := by decide +kernel
theorem dX1_deliver_111 : decode cX1_deliver 111 = .ok (.iinc 5 1, 3) := by decide +kernel
theorem dX1_deliver_114 : decode cX1_deliver 114 = .ok (.goto (-60), 3) := by decide +kernel
theorem dX1_deliver_117 : decode cX1_deliver 117 = .ok (.aload_n 0, 1) := by decide +kernel
theorem dX1_deliver_118 : decode cX1_deliver 118 = .ok (.dup, 1) := by decide +kernel
theorem dX1_deliver_119 : decode cX1_deliver 119 = .ok (.getfield 160, 3) := by decide +kernel
theorem dX1_deliver_122 : decode cX1_deliver 122 = .ok (.iconst 1, 1) := by decide +kernel
theorem dX1_deliver_123 : decode cX1_deliver 123 = .ok (.iadd, 1) := by decide +kernel
theorem dX1_deliver_124 : decode cX1_deliver 124 = .ok (.putfield 160, 3) := by decide +kernel
theorem dX1_deliver_127 : decode cX1_deliver 127 = .ok (.aload 4, 2) := by decide +kernel
theorem dX1_deliver_129 : decode cX1_deliver 129 = .ok (.iload_n 2, 1) := by decide +kernel
theorem dX1_deliver_130 : decode cX1_deliver 130 = .ok (.iload_n 3, 1) := by decide +kernel
theorem dX1_deliver_131 : decode cX1_deliver 131 = .ok (.invokevirtual 309, 3) := by decide +kernel
theorem dX1_deliver_134 : decode cX1_deliver 134 = .ok (.iconst 0, 1) := by decide +kernel
theorem dX1_deliver_135 : decode cX1_deliver 135 = .ok (.istore 5, 2) := by decide +kernel
theorem dX1_deliver_137 : decode cX1_deliver 137 = .ok (.aload 4, 2) := by decide +kernel
theorem dX1_deliver_139 : decode cX1_deliver 139 = .ok (.aload_n 0, 1) := by decide +kernel
theorem dX1_deliver_140 : decode cX1_deliver 140 = .ok (.getfield 122, 3) := by decide +kernel
theorem dX1_deliver_143 : decode cX1_deliver 143 = .ok (.invokevirtual 312, 3) := by decide +kernel
theorem dX1_deliver_146 : decode cX1_deliver 146 = .ok (.ifCond .eq 32, 3) := by decide +kernel
theorem dX1_deliver_149 : decode cX1_deliver 149 = .ok (.iload 5, 2) := by decide +kernel
theorem dX1_deliver_151 : decode cX1_deliver 151 = .ok (.aload 4, 2) := by decide +kernel
theorem dX1_deliver_153 : decode cX1_deliver 153 = .ok (.invokevirtual 188, 3) := by decide +kernel
theorem dX1_deliver_156 : decode cX1_deliver 156 = .ok (.ifCond .eq 7, 3) := by decide +kernel
theorem dX1_deliver_159 : decode cX1_deliver 159 = .ok (.iconst 0, 1) := by decide +kernel
theorem dX1_deliver_160 : decode cX1_deliver 160 = .ok (.goto 12, 3) := by decide +kernel
theorem dX1_deliver_163 : decode cX1_deliver 163 = .ok (.aload_n 0, 1) := by decide +kernel
theorem dX1_deliver_164 : decode cX1_deliver 164 = .ok (.aload 4, 2) := by decide +kernel
theorem dX1_deliver_166 : decode cX1_deliver 166 = .ok (.getfield 316, 3) := by decide +kernel
theorem dX1_deliver_169 : decode cX1_deliver 169 = .ok (.invokevirtual 296, 3) := by decide +kernel
theorem dX1_deliver_172 : decode cX1_deliver 172 = .ok (.iadd, 1) := by decide +kernel
theorem dX1_deliver_173 : decode cX1_deliver 173 = .ok (.istore 5, 2) := by decide +kernel
theorem dX1_deliver_175 : decode cX1_deliver 175 = .ok (.goto (-38), 3) := by decide +kernel
theorem dX1_deliver_178 : decode cX1_deliver 178 = .ok (.iload 5, 2) := by decide +kernel
theorem dX1_deliver_180 : decode cX1_deliver 180 = .ok (.ireturn, 1) := by decide +kernel
theorem dX1_rush_0 : decode cX1_rush 0 = .ok (.iload_n 1, 1) := by decide +kernel
theorem dX1_rush_1 : decode cX1_rush 1 = .ok (.ifCond .lt 14, 3) := by decide +kernel
theorem dX1_rush_4 : decode cX1_rush 4 = .ok (.iload_n 1, 1) := by decide +kernel
theorem dX1_rush_5 : decode cX1_rush 5 = .ok (.ldc_w 319, 3) := by decide +kernel
theorem dX1_rush_8 : decode cX1_rush 8 = .ok (.if_icmp .gt 7, 3) := by decide +kernel
theorem dX1_rush_11 : decode cX1_rush 11 = .ok (.iload_n 2, 1) := by decide +kernel
theorem dX1_rush_12 : decode cX1_rush 12 = .ok (.ifCond .ge 5, 3) := by decide +kernel
theorem dX1_rush_15 : decode cX1_rush 15 = .ok (.iconst (-1), 1) := by decide +kernel
theorem dX1_rush_16 : decode cX1_rush 16 = .ok (.ireturn, 1) := by decide +kernel
theorem dX1_rush_17 : decode cX1_rush 17 = .ok (.iconst 0, 1) := by decide +kernel
theorem dX1_rush_18 : decode cX1_rush 18 = .ok (.istore_n 3, 1) := by decide +kernel
theorem dX1_rush_19 : decode cX1_rush 19 = .ok (.iload_n 3, 1) := by decide +kernel
theorem dX1_rush_20 : decode cX1_rush 20 = .ok (.iload_n 1, 1) := by decide +kernel
theorem dX1_rush_21 : decode cX1_rush 21 = .ok (.if_icmp .ge 28, 3) := by decide +kernel
theorem dX1_rush_24 : decode cX1_rush 24 = .ok (.aload_n 0, 1) := by decide +kernel
theorem dX1_rush_25 : decode cX1_rush 25 = .ok (.getfield 157, 3) := by decide +kernel
theorem dX1_rush_28 : decode cX1_rush 28 = .ok (.ifCond .le 21, 3) := by decide +kernel
theorem dX1_rush_31 : decode cX1_rush 31 = .ok (.aload_n 0, 1) := by decide +kernel
theorem dX1_rush_32 : decode cX1_rush 32 = .ok (.iload_n 2, 1) := by decide +kernel
theorem dX1_rush_33 : decode cX1_rush 33 = .ok (.aload_n 0, 1) := by decide +kernel
theorem dX1_rush_34 : decode cX1_rush 34 = .ok (.getfield 157, 3) := by decide +kernel
theorem dX1_rush_37 : decode cX1_rush 37 = .ok (.irem, 1) := by decide +kernel
theorem dX1_rush_38 : decode cX1_rush 38 = .ok (.invokevirtual 320, 3) := by decide +kernel
theorem dX1_rush_41 : decode cX1_rush 41 = .ok (.istore 4, 2) := by decide +kernel
theorem dX1_rush_43 : decode cX1_rush 43 = .ok (.iinc 3 1, 3) := by decide +kernel
theorem dX1_rush_46 : decode cX1_rush 46 = .ok (.goto (-27), 3) := by decide +kernel
theorem dX1_rush_49 : decode cX1_rush 49 = .ok (.iload_n 3, 1) := by decide +kernel
theorem dX1_rush_50 : decode cX1_rush 50 = .ok (.ireturn, 1) := by decide +kernel
theorem dX1_party_0 : decode cX1_party 0 = .ok (.aload_n 0, 1) := by decide +kernel
theorem dX1_party_1 : decode cX1_party 1 = .ok (.iload_n 1, 1) := by decide +kernel
theorem dX1_party_2 : decode cX1_party 2 = .ok (.invokevirtual 323, 3) := by decide +kernel
theorem dX1_party_5 : decode cX1_party 5 = .ok (.ifCond .ne 5, 3) := by decide +kernel
theorem dX1_party_8 : decode cX1_party 8 = .ok (.iconst (-1), 1) := by decide +kernel
theorem dX1_party_9 : decode cX1_party 9 = .ok (.ireturn, 1) := by decide +kernel
theorem dX1_party_10 : decode cX1_party 10 = .ok (.iload_n 2, 1) := by decide +kernel
theorem dX1_party_11 : decode cX1_party 11 = .ok (.ifCond .ne 15, 3) := by decide +kernel
theorem dX1_party_14 : decode cX1_party 14 = .ok (.aload_n 0, 1) := by decide +kernel
theorem dX1_party_15 : decode cX1_party 15 = .ok (.getfield 122, 3) := by decide +kernel
theorem dX1_party_18 : decode cX1_party 18 = .ok (.iload_n 1, 1) := by decide +kernel
theorem dX1_party_19 : decode cX1_party 19 = .ok (.aaload, 1) := by decide +kernel
theorem dX1_party_20 : decode cX1_party 20 = .ok (.getfield 299, 3) := by decide +kernel
theorem dX1_party_23 : decode cX1_party 23 = .ok (.goto 38, 3) := by decide +kernel
theorem dX1_party_26 : decode cX1_party 26 = .ok (.iload_n 2, 1) := by decide +kernel
theorem dX1_party_27 : decode cX1_party 27 = .ok (.iconst 1, 1) := by decide +kernel
theorem dX1_party_28 : decode cX1_party 28 = .ok (.if_icmp .ne 15, 3) := by decide +kernel
theorem dX1_party_31 : decode cX1_party 31 = .ok (.aload_n 0, 1) := by decide +kernel
theorem dX1_party_32 : decode cX1_party 32 = .ok (.getfield 122, 3) := by decide +kernel
theorem dX1_party_35 : decode cX1_party 35 = .ok (.iload_n 1, 1) := by decide +kernel
theorem dX1_party_36 : decode cX1_party 36 = .ok (.aaload, 1) := by decide +kernel
theorem dX1_party_37 : decode cX1_party 37 = .ok (.getfield 326, 3) := by decide +kernel
theorem dX1_party_40 : decode cX1_party 40 = .ok (.goto 21, 3) := by decide +kernel
theorem dX1_party_43 : decode cX1_party 43 = .ok (.iload_n 2, 1) := by decide +kernel
theorem dX1_party_44 : decode cX1_party 44 = .ok (.iconst 2, 1) := by decide +kernel
theorem dX1_party_45 : decode cX1_party 45 = .ok (.if_icmp .ne 15, 3) := by decide +kernel
theorem dX1_party_48 : decode cX1_party 48 = .ok (.aload_n 0, 1) := by decide +kernel
theorem dX1_party_49 : decode cX1_party 49 = .ok (.getfield 122, 3) := by decide +kernel
theorem dX1_party_52 : decode cX1_party 52 = .ok (.iload_n 1, 1) := by decide +kernel
theorem dX1_party_53 : decode cX1_party 53 = .ok (.aaload, 1) := by decide +kernel
theorem dX1_party_54 : decode cX1_party 54 = .ok (.invokevirtual 329, 3) := by decide +kernel
theorem dX1_party_57 : decode cX1_party 57 = .ok (.goto 4, 3) := by decide +kernel
theorem dX1_party_60 : decode cX1_party 60 = .ok (.iconst (-1), 1) := by decide +kernel
theorem dX1_party_61 : decode cX1_party 61 = .ok (.ireturn, 1) := by decide +kernel
theorem dX1_isParty_0 : decode cX1_isParty 0 = .ok (.aload_n 0, 1) := by decide +kernel
theorem dX1_isParty_1 : decode cX1_isParty 1 = .ok (.getfield 154, 3) := by decide +kernel
theorem dX1_isParty_4 : decode cX1_isParty 4 = .ok (.ifCond .eq 19, 3) := by decide +kernel
theorem dX1_isParty_7 : decode cX1_isParty 7 = .ok (.iload_n 1, 1) := by decide +kernel
theorem dX1_isParty_8 : decode cX1_isParty 8 = .ok (.ifCond .lt 15, 3) := by decide +kernel
theorem dX1_isParty_11 : decode cX1_isParty 11 = .ok (.iload_n 1, 1) := by decide +kernel
theorem dX1_isParty_12 : decode cX1_isParty 12 = .ok (.aload_n 0, 1) := by decide +kernel
theorem dX1_isParty_13 : decode cX1_isParty 13 = .ok (.getfield 77, 3) := by decide +kernel
theorem dX1_isParty_16 : decode cX1_isParty 16 = .ok (.if_icmp .ge 7, 3) := by decide +kernel
theorem dX1_isParty_19 : decode cX1_isParty 19 = .ok (.iconst 1, 1) := by decide +kernel
theorem dX1_isParty_20 : decode cX1_isParty 20 = .ok (.goto 4, 3) := by decide +kernel
theorem dX1_isParty_23 : decode cX1_isParty 23 = .ok (.iconst 0, 1) := by decide +kernel
theorem dX1_isParty_24 : decode cX1_isParty 24 = .ok (.ireturn, 1) := by decide +kernel
theorem dX1_dealt_0 : decode cX1_dealt 0 = .ok (.aload_n 0, 1) := by decide +kernel
theorem dX1_dealt_1 : decode cX1_dealt 1 = .ok (.iload_n 1, 1) := by decide +kernel
theorem dX1_dealt_2 : decode cX1_dealt 2 = .ok (.invokevirtual 323, 3) := by decide +kernel
theorem dX1_dealt_5 : decode cX1_dealt 5 = .ok (.ifCond .eq 30, 3) := by decide +kernel
theorem dX1_dealt_8 : decode cX1_dealt 8 = .ok (.iload_n 2, 1) := by decide +kernel
theorem dX1_dealt_9 : decode cX1_dealt 9 = .ok (.ifCond .lt 26, 3) := by decide +kernel
theorem dX1_dealt_12 : decode cX1_dealt 12 = .ok (.iload_n 2, 1) := by decide +kernel
theorem dX1_dealt_13 : decode cX1_dealt 13 = .ok (.aload_n 0, 1) := by decide +kernel
theorem dX1_dealt_14 : decode cX1_dealt 14 = .ok (.getfield 40, 3) := by decide +kernel
theorem dX1_dealt_17 : decode cX1_dealt 17 = .ok (.getfield 191, 3) := by decide +kernel
theorem dX1_dealt_20 : decode cX1_dealt 20 = .ok (.if_icmp .ge 15, 3) := by decide +kernel
theorem dX1_dealt_23 : decode cX1_dealt 23 = .ok (.aload_n 0, 1) := by decide +kernel
theorem dX1_dealt_24 : decode cX1_dealt 24 = .ok (.getfield 40, 3) := by decide +kernel
theorem dX1_dealt_27 : decode cX1_dealt 27 = .ok (.getfield 227, 3) := by decide +kernel
theorem dX1_dealt_30 : decode cX1_dealt 30 = .ok (.iload_n 2, 1) := by decide +kernel
theorem dX1_dealt_31 : decode cX1_dealt 31 = .ok (.baload, 1) := by decide +kernel
theorem dX1_dealt_32 : decode cX1_dealt 32 = .ok (.ifCond .ne 5, 3) := by decide +kernel
theorem dX1_dealt_35 : decode cX1_dealt 35 = .ok (.iconst (-1), 1) := by decide +kernel
theorem dX1_dealt_36 : decode cX1_dealt 36 = .ok (.ireturn, 1) := by decide +kernel
theorem dX1_dealt_37 : decode cX1_dealt 37 = .ok (.iload_n 3, 1) := by decide +kernel
theorem dX1_dealt_38 : decode cX1_dealt 38 = .ok (.ifCond .ne 19, 3) := by decide +kernel
theorem dX1_dealt_41 : decode cX1_dealt 41 = .ok (.aload_n 0, 1) := by decide +kernel
theorem dX1_dealt_42 : decode cX1_dealt 42 = .ok (.getfield 122, 3) := by decide +kernel
theorem dX1_dealt_45 : decode cX1_dealt 45 = .ok (.iload_n 1, 1) := by decide +kernel
theorem dX1_dealt_46 : decode cX1_dealt 46 = .ok (.aaload, 1) := by decide +kernel
theorem dX1_dealt_47 : decode cX1_dealt 47 = .ok (.getfield 278, 3) := by decide +kernel
theorem dX1_dealt_50 : decode cX1_dealt 50 = .ok (.iload_n 2, 1) := by decide +kernel
theorem dX1_dealt_51 : decode cX1_dealt 51 = .ok (.invokevirtual 332, 3) := by decide +kernel
theorem dX1_dealt_54 : decode cX1_dealt 54 = .ok (.goto 46, 3) := by decide +kernel
theorem dX1_dealt_57 : decode cX1_dealt 57 = .ok (.iload_n 3, 1) := by decide +kernel
theorem dX1_dealt_58 : decode cX1_dealt 58 = .ok (.iconst 1, 1) := by decide +kernel
theorem dX1_dealt_59 : decode cX1_dealt 59 = .ok (.if_icmp .ne 19, 3) := by decide +kernel
theorem dX1_dealt_62 : decode cX1_dealt 62 = .ok (.aload_n 0, 1) := by decide +kernel
theorem dX1_dealt_63 : decode cX1_dealt 63 = .ok (.getfield 122, 3) := by decide +kernel
theorem dX1_dealt_66 : decode cX1_dealt 66 = .ok (.iload_n 1, 1) := by decide +kernel
theorem dX1_dealt_67 : decode cX1_dealt 67 = .ok (.aaload, 1) := by decide +kernel
theorem dX1_dealt_68 : decode cX1_dealt 68 = .ok (.getfield 281, 3) := by decide +kernel
theorem dX1_dealt_71 : decode cX1_dealt 71 = .ok (.iload_n 2, 1) := by decide +kernel
theorem dX1_dealt_72 : decode cX1_dealt 72 = .ok (.invokevirtual 332, 3) := by decide +kernel
theorem dX1_dealt_75 : decode cX1_dealt 75 = .ok (.goto 25, 3) := by decide +kernel
theorem dX1_dealt_78 : decode cX1_dealt 78 = .ok (.iload_n 3, 1) := by decide +kernel
theorem dX1_dealt_79 : decode cX1_dealt 79 = .ok (.iconst 2, 1) := by decide +kernel
theorem dX1_dealt_80 : decode cX1_dealt 80 = .ok (.if_icmp .ne 19, 3) := by decide +kernel
theorem dX1_dealt_83 : decode cX1_dealt 83 = .ok (.aload_n 0, 1) := by decide +kernel
theorem dX1_dealt_84 : decode cX1_dealt 84 = .ok (.getfield 122, 3) := by decide +kernel
theorem dX1_dealt_87 : decode cX1_dealt 87 = .ok (.iload_n 1, 1) := by decide +kernel
theorem dX1_dealt_88 : decode cX1_dealt 88 = .ok (.aaload, 1) := by decide +kernel
theorem dX1_dealt_89 : decode cX1_dealt 89 = .ok (.getfield 284, 3) := by decide +kernel
theorem dX1_dealt_92 : decode cX1_dealt 92 = .ok (.iload_n 2, 1) := by decide +kernel
theorem dX1_dealt_93 : decode cX1_dealt 93 = .ok (.invokevirtual 332, 3) := by decide +kernel
theorem dX1_dealt_96 : decode cX1_dealt 96 = .ok (.goto 4, 3) := by decide +kernel
theorem dX1_dealt_99 : decode cX1_dealt 99 = .ok (.iconst (-1), 1) := by decide +kernel
theorem dX1_dealt_100 : decode cX1_dealt 100 = .ok (.ireturn, 1) := by decide +kernel
theorem dX1_share_0 : decode cX1_share 0 = .ok (.aload_n 0, 1) := by decide +kernel
theorem dX1_share_1 : decode cX1_share 1 = .ok (.iload_n 1, 1) := by decide +kernel
theorem dX1_share_2 : decode cX1_share 2 = .ok (.invokevirtual 323, 3) := by decide +kernel
theorem dX1_share_5 : decode cX1_share 5 = .ok (.ifCond .eq 26, 3) := by decide +kernel
theorem dX1_share_8 : decode cX1_share 8 = .ok (.iload_n 2, 1) := by decide +kernel
theorem dX1_share_9 : decode cX1_share 9 = .ok (.ifCond .lt 22, 3) := by decide +kernel
theorem dX1_share_12 : decode cX1_share 12 = .ok (.iload_n 2, 1) := by decide +kernel
theorem dX1_share_13 : decode cX1_share 13 = .ok (.aload_n 0, 1) := by decide +kernel
theorem dX1_share_14 : decode cX1_share 14 = .ok (.getfield 40, 3) := by decide +kernel
theorem dX1_share_17 : decode cX1_share 17 = .ok (.getfield 200, 3) := by decide +kernel
theorem dX1_share_20 : decode cX1_share 20 = .ok (.aload_n 0, 1) := by decide +kernel
theorem dX1_share_21 : decode cX1_share 21 = .ok (.getfield 40, 3) := by decide +kernel
theorem dX1_share_24 : decode cX1_share 24 = .ok (.getfield 191, 3) := by decide +kernel
theorem dX1_share_27 : decode cX1_share 27 = .ok (.iadd, 1) := by decide +kernel
theorem dX1_share_28 : decode cX1_share 28 = .ok (.if_icmp .lt 5, 3) := by decide +kernel
theorem dX1_share_31 : decode cX1_share 31 = .ok (.iconst (-1), 1) := by decide +kernel
theorem dX1_share_32 : decode cX1_share 32 = .ok (.ireturn, 1) := by decide +kernel
theorem dX1_share_33 : decode cX1_share 33 = .ok (.iload_n 2, 1) := by decide +kernel
theorem dX1_share_34 : decode cX1_share 34 = .ok (.aload_n 0, 1) := by decide +kernel
theorem dX1_share_35 : decode cX1_share 35 = .ok (.getfield 40, 3) := by decide +kernel
theorem dX1_share_38 : decode cX1_share 38 = .ok (.getfield 200, 3) := by decide +kernel
theorem dX1_share_41 : decode cX1_share 41 = .ok (.if_icmp .ge 7, 3) := by decide +kernel
theorem dX1_share_44 : decode cX1_share 44 = .ok (.iconst 0, 1) := by decide +kernel
theorem dX1_share_45 : decode cX1_share 45 = .ok (.goto 20, 3) := by decide +kernel
theorem dX1_share_48 : decode cX1_share 48 = .ok (.aload_n 0, 1) := by decide +kernel
theorem dX1_share_49 : decode cX1_share 49 = .ok (.getfield 40, 3) := by decide +kernel
theorem dX1_share_52 : decode cX1_share 52 = .ok (.getfield 231, 3) := by decide +kernel
theorem dX1_share_55 : decode cX1_share 55 = .ok (.iload_n 2, 1) := by decide +kernel
theorem dX1_share_56 : decode cX1_share 56 = .ok (.aload_n 0, 1) := by decide +kernel
theorem dX1_share_57 : decode cX1_share 57 = .ok (.getfield 40, 3) := by decide +kernel
theorem dX1_share_60 : decode cX1_share 60 = .ok (.getfield 200, 3) := by decide +kernel
theorem dX1_share_63 : decode cX1_share 63 = .ok (.isub, 1) := by decide +kernel
theorem dX1_share_64 : decode cX1_share 64 = .ok (.saload, 1) := by decide +kernel
theorem dX1_share_65 : decode cX1_share 65 = .ok (.istore_n 3, 1) := by decide +kernel
theorem dX1_share_66 : decode cX1_share 66 = .ok (.iload_n 3, 1) := by decide +kernel
theorem dX1_share_67 : decode cX1_share 67 = .ok (.aload_n 0, 1) := by decide +kernel
theorem dX1_share_68 : decode cX1_share 68 = .ok (.getfield 122, 3) := by decide +kernel
theorem dX1_share_71 : decode cX1_share 71 = .ok (.iload_n 1, 1) := by decide +kernel
theorem dX1_share_72 : decode cX1_share 72 = .ok (.aaload, 1) := by decide +kernel
theorem dX1_share_73 : decode cX1_share 73 = .ok (.getfield 299, 3) := by decide +kernel
theorem dX1_share_76 : decode cX1_share 76 = .ok (.if_icmp .ge 19, 3) := by decide +kernel
theorem dX1_share_79 : decode cX1_share 79 = .ok (.aload_n 0, 1) := by decide +kernel
theorem dX1_share_80 : decode cX1_share 80 = .ok (.getfield 122, 3) := by decide +kernel
theorem dX1_share_83 : decode cX1_share 83 = .ok (.iload_n 1, 1) := by decide +kernel
theorem dX1_share_84 : decode cX1_share 84 = .ok (.aaload, 1) := by decide +kernel
theorem dX1_share_85 : decode cX1_share 85 = .ok (.getfield 335, 3) := by decide +kernel
theorem dX1_share_88 : decode cX1_share 88 = .ok (.iload_n 2, 1) := by decide +kernel
theorem dX1_share_89 : decode cX1_share 89 = .ok (.invokevirtual 332, 3) := by decide +kernel
theorem dX1_share_92 : decode cX1_share 92 = .ok (.goto 4, 3) := by decide +kernel
theorem dX1_share_95 : decode cX1_share 95 = .ok (.iconst (-1), 1) := by decide +kernel
theorem dX1_share_96 : decode cX1_share 96 = .ok (.ireturn, 1) := by decide +kernel
theorem dX1_view_0 : decode cX1_view 0 = .ok (.aload_n 0, 1) := by decide +kernel
theorem dX1_view_1 : decode cX1_view 1 = .ok (.iload_n 1, 1) := by decide +kernel
theorem dX1_view_2 : decode cX1_view 2 = .ok (.invokevirtual 323, 3) := by decide +kernel
theorem dX1_view_5 : decode cX1_view 5 = .ok (.ifCond .eq 28, 3) := by decide +kernel
theorem dX1_view_8 : decode cX1_view 8 = .ok (.iload_n 2, 1) := by decide +kernel
theorem dX1_view_9 : decode cX1_view 9 = .ok (.ifCond .lt 24, 3) := by decide +kernel
theorem dX1_view_12 : decode cX1_view 12 = .ok (.aload_n 0, 1) := by decide +kernel
theorem dX1_view_13 : decode cX1_view 13 = .ok (.getfield 122, 3) := by decide +kernel
theorem dX1_view_16 : decode cX1_view 16 = .ok (.iload_n 1, 1) := by decide +kernel
theorem dX1_view_17 : decode cX1_view 17 = .ok (.aaload, 1) := by decide +kernel
theorem dX1_view_18 : decode cX1_view 18 = .ok (.aload_n 0, 1) := by decide +kernel
theorem dX1_view_19 : decode cX1_view 19 = .ok (.getfield 122, 3) := by decide +kernel
theorem dX1_view_22 : decode cX1_view 22 = .ok (.aload_n 0, 1) := by decide +kernel
theorem dX1_view_23 : decode cX1_view 23 = .ok (.getfield 60, 3) := by decide +kernel
theorem dX1_view_26 : decode cX1_view 26 = .ok (.iload_n 2, 1) := by decide +kernel
theorem dX1_view_27 : decode cX1_view 27 = .ok (.invokevirtual 338, 3) := by decide +kernel
theorem dX1_view_30 : decode cX1_view 30 = .ok (.goto 4, 3) := by decide +kernel
theorem dX1_view_33 : decode cX1_view 33 = .ok (.iconst (-1), 1) := by decide +kernel
theorem dX1_view_34 : decode cX1_view 34 = .ok (.ireturn, 1) := by decide +kernel
theorem dX1_told_0 : decode cX1_told 0 = .ok (.aload_n 0, 1) := by decide +kernel
theorem dX1_told_1 : decode cX1_told 1 = .ok (.iload_n 1, 1) := by decide +kernel
theorem dX1_told_2 : decode cX1_told 2 = .ok (.invokevirtual 323, 3) := by decide +kernel
theorem dX1_told_5 : decode cX1_told 5 = .ok (.ifCond .eq 23, 3) := by decide +kernel
theorem dX1_told_8 : decode cX1_told 8 = .ok (.aload_n 0, 1) := by decide +kernel
theorem dX1_told_9 : decode cX1_told 9 = .ok (.getfield 122, 3) := by decide +kernel
theorem dX1_told_12 : decode cX1_told 12 = .ok (.iload_n 1, 1) := by decide +kernel
theorem dX1_told_13 : decode cX1_told 13 = .ok (.aaload, 1) := by decide +kernel
theorem dX1_told_14 : decode cX1_told 14 = .ok (.invokevirtual 188, 3) := by decide +kernel
theorem dX1_told_17 : decode cX1_told 17 = .ok (.ifCond .eq 11, 3) := by decide +kernel
theorem dX1_told_20 : decode cX1_told 20 = .ok (.aload_n 0, 1) := by decide +kernel
theorem dX1_told_21 : decode cX1_told 21 = .ok (.iload_n 2, 1) := by decide +kernel
theorem dX1_told_22 : decode cX1_told 22 = .ok (.invokevirtual 241, 3) := by decide +kernel
theorem dX1_told_25 : decode cX1_told 25 = .ok (.ifCond .ne 7, 3) := by decide +kernel
theorem dX1_told_28 : decode cX1_told 28 = .ok (.ldc2_w 254, 3) := by decide +kernel
theorem dX1_told_31 : decode cX1_told 31 = .ok (.lreturn, 1) := by decide +kernel
theorem dX1_told_32 : decode cX1_told 32 = .ok (.lconst 0, 1) := by decide +kernel
theorem dX1_told_33 : decode cX1_told 33 = .ok (.lstore_n 3, 1) := by decide +kernel
theorem dX1_told_34 : decode cX1_told 34 = .ok (.iconst 0, 1) := by decide +kernel
theorem dX1_told_35 : decode cX1_told 35 = .ok (.istore 5, 2) := by decide +kernel
theorem dX1_told_37 : decode cX1_told 37 = .ok (.iload 5, 2) := by decide +kernel
theorem dX1_told_39 : decode cX1_told 39 = .ok (.aload_n 0, 1) := by decide +kernel
theorem dX1_told_40 : decode cX1_told 40 = .ok (.getfield 107, 3) := by decide +kernel
theorem dX1_told_43 : decode cX1_told 43 = .ok (.getfield 245, 3) := by decide +kernel
theorem dX1_told_46 : decode cX1_told 46 = .ok (.iload_n 2, 1) := by decide +kernel
theorem dX1_told_47 : decode cX1_told 47 = .ok (.iaload, 1) := by decide +kernel
theorem dX1_told_48 : decode cX1_told 48 = .ok (.if_icmp .ge 71, 3) := by decide +kernel
theorem dX1_told_51 : decode cX1_told 51 = .ok (.iconst 0, 1) := by decide +kernel
theorem dX1_told_52 : decode cX1_told 52 = .ok (.istore 6, 2) := by decide +kernel
theorem dX1_told_54 : decode cX1_told 54 = .ok (.iconst 0, 1) := by decide +kernel
theorem dX1_told_55 : decode cX1_told 55 = .ok (.istore 7, 2) := by decide +kernel
theorem dX1_told_57 : decode cX1_told 57 = .ok (.iload 7, 2) := by decide +kernel
theorem dX1_told_59 : decode cX1_told 59 = .ok (.aload_n 0, 1) := by decide +kernel
theorem dX1_told_60 : decode cX1_told 60 = .ok (.getfield 77, 3) := by decide +kernel
theorem dX1_told_63 : decode cX1_told 63 = .ok (.if_icmp .ge 41, 3) := by decide +kernel
theorem dX1_told_66 : decode cX1_told 66 = .ok (.iload 6, 2) := by decide +kernel
theorem dX1_told_68 : decode cX1_told 68 = .ok (.aload_n 0, 1) := by decide +kernel
theorem dX1_told_69 : decode cX1_told 69 = .ok (.getfield 122, 3) := by decide +kernel
theorem dX1_told_72 : decode cX1_told 72 = .ok (.iload 7, 2) := by decide +kernel
theorem dX1_told_74 : decode cX1_told 74 = .ok (.aaload, 1) := by decide +kernel
theorem dX1_told_75 : decode cX1_told 75 = .ok (.aload_n 0, 1) := by decide +kernel
theorem dX1_told_76 : decode cX1_told 76 = .ok (.getfield 107, 3) := by decide +kernel
theorem dX1_told_79 : decode cX1_told 79 = .ok (.getfield 248, 3) := by decide +kernel
theorem dX1_told_82 : decode cX1_told 82 = .ok (.aload_n 0, 1) := by decide +kernel
theorem dX1_told_83 : decode cX1_told 83 = .ok (.getfield 81, 3) := by decide +kernel
theorem dX1_told_86 : decode cX1_told 86 = .ok (.iload_n 2, 1) := by decide +kernel
theorem dX1_told_87 : decode cX1_told 87 = .ok (.imul, 1) := by decide +kernel
theorem dX1_told_88 : decode cX1_told 88 = .ok (.iload 5, 2) := by decide +kernel
theorem dX1_told_90 : decode cX1_told 90 = .ok (.iadd, 1) := by decide +kernel
theorem dX1_told_91 : decode cX1_told 91 = .ok (.iaload, 1) := by decide +kernel
theorem dX1_told_92 : decode cX1_told 92 = .ok (.invokevirtual 342, 3) := by decide +kernel
theorem dX1_told_95 : decode cX1_told 95 = .ok (.ixor, 1) := by decide +kernel
theorem dX1_told_96 : decode cX1_told 96 = .ok (.istore 6, 2) := by decide +kernel
theorem dX1_told_98 : decode cX1_told 98 = .ok (.iinc 7 1, 3) := by decide +kernel
theorem dX1_told_101 : decode cX1_told 101 = .ok (.goto (-44), 3) := by decide +kernel
theorem dX1_told_104 : decode cX1_told 104 = .ok (.lload_n 3, 1) := by decide +kernel
theorem dX1_told_105 : decode cX1_told 105 = .ok (.iload 6, 2) := by decide +kernel
theorem dX1_told_107 : decode cX1_told 107 = .ok (.i2l, 1) := by decide +kernel
theorem dX1_told_108 : decode cX1_told 108 = .ok (.iload 5, 2) := by decide +kernel
theorem dX1_told_110 : decode cX1_told 110 = .ok (.lshl, 1) := by decide +kernel
theorem dX1_told_111 : decode cX1_told 111 = .ok (.lor, 1) := by decide +kernel
theorem dX1_told_112 : decode cX1_told 112 = .ok (.lstore_n 3, 1) := by decide +kernel
theorem dX1_told_113 : decode cX1_told 113 = .ok (.iinc 5 1, 3) := by decide +kernel
theorem dX1_told_116 : decode cX1_told 116 = .ok (.goto (-79), 3) := by decide +kernel
theorem dX1_told_119 : decode cX1_told 119 = .ok (.lload_n 3, 1) := by decide +kernel
theorem dX1_told_120 : decode cX1_told 120 = .ok (.lreturn, 1) := by decide +kernel
theorem dX1_truth_0 : decode cX1_truth 0 = .ok (.aload_n 0, 1) := by decide +kernel
theorem dX1_truth_1 : decode cX1_truth 1 = .ok (.iload_n 1, 1) := by decide +kernel
theorem dX1_truth_2 : decode cX1_truth 2 = .ok (.invokevirtual 241, 3) := by decide +kernel
theorem dX1_truth_5 : decode cX1_truth 5 = .ok (.ifCond .ne 7, 3) := by decide +kernel
theorem dX1_truth_8 : decode cX1_truth 8 = .ok (.ldc2_w 254, 3) := by decide +kernel
theorem dX1_truth_11 : decode cX1_truth 11 = .ok (.lreturn, 1) := by decide +kernel
theorem dX1_truth_12 : decode cX1_truth 12 = .ok (.iconst 0, 1) := by decide +kernel
theorem dX1_truth_13 : decode cX1_truth 13 = .ok (.istore_n 2, 1) := by decide +kernel
theorem dX1_truth_14 : decode cX1_truth 14 = .ok (.iload_n 2, 1) := by decide +kernel
theorem dX1_truth_15 : decode cX1_truth 15 = .ok (.aload_n 0, 1) := by decide +kernel
theorem dX1_truth_16 : decode cX1_truth 16 = .ok (.getfield 107, 3) := by decide +kernel
theorem dX1_truth_19 : decode cX1_truth 19 = .ok (.getfield 203, 3) := by decide +kernel
theorem dX1_truth_22 : decode cX1_truth 22 = .ok (.if_icmp .ge 81, 3) := by decide +kernel
theorem dX1_truth_25 : decode cX1_truth 25 = .ok (.iconst 0, 1) := by decide +kernel
theorem dX1_truth_26 : decode cX1_truth 26 = .ok (.istore_n 3, 1) := by decide +kernel
theorem dX1_truth_27 : decode cX1_truth 27 = .ok (.iload_n 3, 1) := by decide +kernel
theorem dX1_truth_28 : decode cX1_truth 28 = .ok (.aload_n 0, 1) := by decide +kernel
theorem dX1_truth_29 : decode cX1_truth 29 = .ok (.getfield 107, 3) := by decide +kernel
theorem dX1_truth_32 : decode cX1_truth 32 = .ok (.getfield 259, 3) := by decide +kernel
theorem dX1_truth_35 : decode cX1_truth 35 = .ok (.iload_n 2, 1) := by decide +kernel
theorem dX1_truth_36 : decode cX1_truth 36 = .ok (.iaload, 1) := by decide +kernel
theorem dX1_truth_37 : decode cX1_truth 37 = .ok (.if_icmp .ge 60, 3) := by decide +kernel
theorem dX1_truth_40 : decode cX1_truth 40 = .ok (.aload_n 0, 1) := by decide +kernel
theorem dX1_truth_41 : decode cX1_truth 41 = .ok (.getfield 107, 3) := by decide +kernel
theorem dX1_truth_44 : decode cX1_truth 44 = .ok (.getfield 266, 3) := by decide +kernel
theorem dX1_truth_47 : decode cX1_truth 47 = .ok (.iload_n 2, 1) := by decide +kernel
theorem dX1_truth_48 : decode cX1_truth 48 = .ok (.iaload, 1) := by decide +kernel
theorem dX1_truth_49 : decode cX1_truth 49 = .ok (.iload_n 3, 1) := by decide +kernel
theorem dX1_truth_50 : decode cX1_truth 50 = .ok (.iadd, 1) := by decide +kernel
theorem dX1_truth_51 : decode cX1_truth 51 = .ok (.istore 4, 2) := by decide +kernel
theorem dX1_truth_53 : decode cX1_truth 53 = .ok (.aload_n 0, 1) := by decide +kernel
theorem dX1_truth_54 : decode cX1_truth 54 = .ok (.getfield 65, 3) := by decide +kernel
theorem dX1_truth_57 : decode cX1_truth 57 = .ok (.iload 4, 2) := by decide +kernel
theorem dX1_truth_59 : decode cX1_truth 59 = .ok (.aload_n 0, 1) := by decide +kernel
theorem dX1_truth_60 : decode cX1_truth 60 = .ok (.getfield 154, 3) := by decide +kernel
theorem dX1_truth_63 : decode cX1_truth 63 = .ok (.ifCond .eq 15, 3) := by decide +kernel
theorem dX1_truth_66 : decode cX1_truth 66 = .ok (.aload_n 0, 1) := by decide +kernel
theorem dX1_truth_67 : decode cX1_truth 67 = .ok (.getfield 60, 3) := by decide +kernel
theorem dX1_truth_70 : decode cX1_truth 70 = .ok (.iload 4, 2) := by decide +kernel
theorem dX1_truth_72 : decode cX1_truth 72 = .ok (.invokevirtual 332, 3) := by decide +kernel
theorem dX1_truth_75 : decode cX1_truth 75 = .ok (.goto 13, 3) := by decide +kernel
theorem dX1_truth_78 : decode cX1_truth 78 = .ok (.aload_n 0, 1) := by decide +kernel
theorem dX1_truth_79 : decode cX1_truth 79 = .ok (.getfield 51, 3) := by decide +kernel
theorem dX1_truth_82 : decode cX1_truth 82 = .ok (.iload_n 2, 1) := by decide +kernel
theorem dX1_truth_83 : decode cX1_truth 83 = .ok (.iaload, 1) := by decide +kernel
theorem dX1_truth_84 : decode cX1_truth 84 = .ok (.iload_n 3, 1) := by decide +kernel
theorem dX1_truth_85 : decode cX1_truth 85 = .ok (.ishr, 1) := by decide +kernel
theorem dX1_truth_86 : decode cX1_truth 86 = .ok (.iconst 1, 1) := by decide +kernel
theorem dX1_truth_87 : decode cX1_truth 87 = .ok (.iand, 1) := by decide +kernel
theorem dX1_truth_88 : decode cX1_truth 88 = .ok (.invokevirtual 268, 3) := by decide +kernel
theorem dX1_truth_91 : decode cX1_truth 91 = .ok (.iinc 3 1, 3) := by decide +kernel
theorem dX1_truth_94 : decode cX1_truth 94 = .ok (.goto (-67), 3) := by decide +kernel
theorem dX1_truth_97 : decode cX1_truth 97 = .ok (.iinc 2 1, 3) := by decide +kernel
theorem dX1_truth_100 : decode cX1_truth 100 = .ok (.goto (-86), 3) := by decide +kernel
theorem dX1_truth_103 : decode cX1_truth 103 = .ok (.iconst 0, 1) := by decide +kernel
theorem dX1_truth_104 : decode cX1_truth 104 = .ok (.istore_n 2, 1) := by decide +kernel
theorem dX1_truth_105 : decode cX1_truth 105 = .ok (.iload_n 2, 1) := by decide +kernel
theorem dX1_truth_106 : decode cX1_truth 106 = .ok (.aload_n 0, 1) := by decide +kernel
theorem dX1_truth_107 : decode cX1_truth 107 = .ok (.getfield 40, 3) := by decide +kernel
theorem dX1_truth_110 : decode cX1_truth 110 = .ok (.getfield 191, 3) := by decide +kernel
theorem dX1_truth_113 : decode cX1_truth 113 = .ok (.if_icmp .ge 77, 3) := by decide +kernel
theorem dX1_truth_116 : decode cX1_truth 116 = .ok (.aload_n 0, 1) := by decide +kernel
theorem dX1_truth_117 : decode cX1_truth 117 = .ok (.aload_n 0, 1) := by decide +kernel
theorem dX1_truth_118 : decode cX1_truth 118 = .ok (.getfield 40, 3) := by decide +kernel
theorem dX1_truth_121 : decode cX1_truth 121 = .ok (.getfield 235, 3) := by decide +kernel
theorem dX1_truth_124 : decode cX1_truth 124 = .ok (.iload_n 2, 1) := by decide +kernel
theorem dX1_truth_125 : decode cX1_truth 125 = .ok (.iaload, 1) := by decide +kernel
theorem dX1_truth_126 : decode cX1_truth 126 = .ok (.invokevirtual 345, 3) := by decide +kernel
theorem dX1_truth_129 : decode cX1_truth 129 = .ok (.istore_n 3, 1) := by decide +kernel
theorem dX1_truth_130 : decode cX1_truth 130 = .ok (.aload_n 0, 1) := by decide +kernel
theorem dX1_truth_131 : decode cX1_truth 131 = .ok (.aload_n 0, 1) := by decide +kernel
theorem dX1_truth_132 : decode cX1_truth 132 = .ok (.getfield 40, 3) := by decide +kernel
theorem dX1_truth_135 : decode cX1_truth 135 = .ok (.getfield 238, 3) := by decide +kernel
theorem dX1_truth_138 : decode cX1_truth 138 = .ok (.iload_n 2, 1) := by decide +kernel
theorem dX1_truth_139 : decode cX1_truth 139 = .ok (.iaload, 1) := by decide +kernel
theorem dX1_truth_140 : decode cX1_truth 140 = .ok (.invokevirtual 345, 3) := by decide +kernel
theorem dX1_truth_143 : decode cX1_truth 143 = .ok (.istore 4, 2) := by decide +kernel
theorem dX1_truth_145 : decode cX1_truth 145 = .ok (.aload_n 0, 1) := by decide +kernel
theorem dX1_truth_146 : decode cX1_truth 146 = .ok (.getfield 65, 3) := by decide +kernel
theorem dX1_truth_149 : decode cX1_truth 149 = .ok (.aload_n 0, 1) := by decide +kernel
theorem dX1_truth_150 : decode cX1_truth 150 = .ok (.getfield 40, 3) := by decide +kernel
theorem dX1_truth_153 : decode cX1_truth 153 = .ok (.getfield 200, 3) := by decide +kernel
theorem dX1_truth_156 : decode cX1_truth 156 = .ok (.iload_n 2, 1) := by decide +kernel
theorem dX1_truth_157 : decode cX1_truth 157 = .ok (.iadd, 1) := by decide +kernel
theorem dX1_truth_158 : decode cX1_truth 158 = .ok (.aload_n 0, 1) := by decide +kernel
theorem dX1_truth_159 : decode cX1_truth 159 = .ok (.getfield 40, 3) := by decide +kernel
theorem dX1_truth_162 : decode cX1_truth 162 = .ok (.getfield 227, 3) := by decide +kernel
theorem dX1_truth_165 : decode cX1_truth 165 = .ok (.iload_n 2, 1) := by decide +kernel
theorem dX1_truth_166 : decode cX1_truth 166 = .ok (.baload, 1) := by decide +kernel
theorem dX1_truth_167 : decode cX1_truth 167 = .ok (.ifCond .eq 10, 3) := by decide +kernel
theorem dX1_truth_170 : decode cX1_truth 170 = .ok (.iload_n 3, 1) := by decide +kernel
theorem dX1_truth_171 : decode cX1_truth 171 = .ok (.iload 4, 2) := by decide +kernel
theorem dX1_truth_173 : decode cX1_truth 173 = .ok (.iand, 1) := by decide +kernel
theorem dX1_truth_174 : decode cX1_truth 174 = .ok (.goto 7, 3) := by decide +kernel
theorem dX1_truth_177 : decode cX1_truth 177 = .ok (.iload_n 3, 1) := by decide +kernel
theorem dX1_truth_178 : decode cX1_truth 178 = .ok (.iload 4, 2) := by decide +kernel
theorem dX1_truth_180 : decode cX1_truth 180 = .ok (.ixor, 1) := by decide +kernel
theorem dX1_truth_181 : decode cX1_truth 181 = .ok (.invokevirtual 268, 3) := by decide +kernel
theorem dX1_truth_184 : decode cX1_truth 184 = .ok (.iinc 2 1, 3) := by decide +kernel
theorem dX1_truth_187 : decode cX1_truth 187 = .ok (.goto (-82), 3) := by decide +kernel
theorem dX1_truth_190 : decode cX1_truth 190 = .ok (.lconst 0, 1) := by decide +kernel
theorem dX1_truth_191 : decode cX1_truth 191 = .ok (.lstore_n 2, 1) := by decide +kernel
theorem dX1_truth_192 : decode cX1_truth 192 = .ok (.iconst 0, 1) := by decide +kernel
theorem dX1_truth_193 : decode cX1_truth 193 = .ok (.istore 4, 2) := by decide +kernel
theorem dX1_truth_195 : decode cX1_truth 195 = .ok (.iload 4, 2) := by decide +kernel
theorem dX1_truth_197 : decode cX1_truth 197 = .ok (.aload_n 0, 1) := by decide +kernel
theorem dX1_truth_198 : decode cX1_truth 198 = .ok (.getfield 107, 3) := by decide +kernel
theorem dX1_truth_201 : decode cX1_truth 201 = .ok (.getfield 245, 3) := by decide +kernel
theorem dX1_truth_204 : decode cX1_truth 204 = .ok (.iload_n 1, 1) := by decide +kernel
theorem dX1_truth_205 : decode cX1_truth 205 = .ok (.iaload, 1) := by decide +kernel
theorem dX1_truth_206 : decode cX1_truth 206 = .ok (.if_icmp .ge 37, 3) := by decide +kernel
theorem dX1_truth_209 : decode cX1_truth 209 = .ok (.lload_n 2, 1) := by decide +kernel
theorem dX1_truth_210 : decode cX1_truth 210 = .ok (.aload_n 0, 1) := by decide +kernel
theorem dX1_truth_211 : decode cX1_truth 211 = .ok (.aload_n 0, 1) := by decide +kernel
theorem dX1_truth_212 : decode cX1_truth 212 = .ok (.getfield 107, 3) := by decide +kernel
theorem dX1_truth_215 : decode cX1_truth 215 = .ok (.getfield 248, 3) := by decide +kernel
theorem dX1_truth_218 : decode cX1_truth 218 = .ok (.aload_n 0, 1) := by decide +kernel
theorem dX1_truth_219 : decode cX1_truth 219 = .ok (.getfield 81, 3) := by decide +kernel
theorem dX1_truth_222 : decode cX1_truth 222 = .ok (.iload_n 1, 1) := by decide +kernel
theorem dX1_truth_223 : decode cX1_truth 223 = .ok (.imul, 1) := by decide +kernel
theorem dX1_truth_224 : decode cX1_truth 224 = .ok (.iload 4, 2) := by decide +kernel
theorem dX1_truth_226 : decode cX1_truth 226 = .ok (.iadd, 1) := by decide +kernel
theorem dX1_truth_227 : decode cX1_truth 227 = .ok (.iaload, 1) := by decide +kernel
theorem dX1_truth_228 : decode cX1_truth 228 = .ok (.invokevirtual 345, 3) := by decide +kernel
theorem dX1_truth_231 : decode cX1_truth 231 = .ok (.i2l, 1) := by decide +kernel
theorem dX1_truth_232 : decode cX1_truth 232 = .ok (.iload 4, 2) := by decide +kernel
theorem dX1_truth_234 : decode cX1_truth 234 = .ok (.lshl, 1) := by decide +kernel
theorem dX1_truth_235 : decode cX1_truth 235 = .ok (.lor, 1) := by decide +kernel
theorem dX1_truth_236 : decode cX1_truth 236 = .ok (.lstore_n 2, 1) := by decide +kernel
theorem dX1_truth_237 : decode cX1_truth 237 = .ok (.iinc 4 1, 3) := by decide +kernel
theorem dX1_truth_240 : decode cX1_truth 240 = .ok (.goto (-45), 3) := by decide +kernel
theorem dX1_truth_243 : decode cX1_truth 243 = .ok (.lload_n 2, 1) := by decide +kernel
theorem dX1_truth_244 : decode cX1_truth 244 = .ok (.lreturn, 1) := by decide +kernel
theorem dX1_plainOf_0 : decode cX1_plainOf 0 = .ok (.iload_n 1, 1) := by decide +kernel
theorem dX1_plainOf_1 : decode cX1_plainOf 1 = .ok (.ifCond .ge 9, 3) := by decide +kernel
theorem dX1_plainOf_4 : decode cX1_plainOf 4 = .ok (.iload_n 1, 1) := by decide +kernel
theorem dX1_plainOf_5 : decode cX1_plainOf 5 = .ok (.iconst 1, 1) := by decide +kernel
theorem dX1_plainOf_6 : decode cX1_plainOf 6 = .ok (.iand, 1) := by decide +kernel
theorem dX1_plainOf_7 : decode cX1_plainOf 7 = .ok (.goto 17, 3) := by decide +kernel
theorem dX1_plainOf_10 : decode cX1_plainOf 10 = .ok (.aload_n 0, 1) := by decide +kernel
theorem dX1_plainOf_11 : decode cX1_plainOf 11 = .ok (.getfield 65, 3) := by decide +kernel
theorem dX1_plainOf_14 : decode cX1_plainOf 14 = .ok (.iload_n 1, 1) := by decide +kernel
theorem dX1_plainOf_15 : decode cX1_plainOf 15 = .ok (.iconst 2, 1) := by decide +kernel
theorem dX1_plainOf_16 : decode cX1_plainOf 16 = .ok (.idiv, 1) := by decide +kernel
theorem dX1_plainOf_17 : decode cX1_plainOf 17 = .ok (.invokevirtual 332, 3) := by decide +kernel
theorem dX1_plainOf_20 : decode cX1_plainOf 20 = .ok (.iload_n 1, 1) := by decide +kernel
theorem dX1_plainOf_21 : decode cX1_plainOf 21 = .ok (.iconst 1, 1) := by decide +kernel
theorem dX1_plainOf_22 : decode cX1_plainOf 22 = .ok (.iand, 1) := by decide +kernel
theorem dX1_plainOf_23 : decode cX1_plainOf 23 = .ok (.ixor, 1) := by decide +kernel
theorem dX1_plainOf_24 : decode cX1_plainOf 24 = .ok (.ireturn, 1) := by decide +kernel
theorem dX2_init_0 : decode cX2_init 0 = .ok (.aload_n 0, 1) := by decide +kernel
theorem dX2_init_1 : decode cX2_init 1 = .ok (.invokespecial 3, 3) := by decide +kernel
theorem dX2_init_4 : decode cX2_init 4 = .ok (.aload_n 0, 1) := by decide +kernel
theorem dX2_init_5 : decode cX2_init 5 = .ok (.sipush 12000, 3) := by decide +kernel
theorem dX2_init_8 : decode cX2_init 8 = .ok (.anewarray 9, 3) := by decide +kernel
theorem dX2_init_11 : decode cX2_init 11 = .ok (.putfield 11, 3) := by decide +kernel
theorem dX2_init_14 : decode cX2_init 14 = .ok (.aload_n 0, 1) := by decide +kernel
theorem dX2_init_15 : decode cX2_init 15 = .ok (.sipush 12000, 3) := by decide +kernel
theorem dX2_init_18 : decode cX2_init 18 = .ok (.newarray .int, 2) := by decide +kernel
theorem dX2_init_20 : decode cX2_init 20 = .ok (.putfield 17, 3) := by decide +kernel
theorem dX2_init_23 : decode cX2_init 23 = .ok (.aload_n 0, 1) := by decide +kernel
theorem dX2_init_24 : decode cX2_init 24 = .ok (.sipush 12000, 3) := by decide +kernel
theorem dX2_init_27 : decode cX2_init 27 = .ok (.newarray .int, 2) := by decide +kernel
theorem dX2_init_29 : decode cX2_init 29 = .ok (.putfield 21, 3) := by decide +kernel
theorem dX2_init_32 : decode cX2_init 32 = .ok (.aload_n 0, 1) := by decide +kernel
theorem dX2_init_33 : decode cX2_init 33 = .ok (.sipush 12000, 3) := by decide +kernel
theorem dX2_init_36 : decode cX2_init 36 = .ok (.newarray .int, 2) := by decide +kernel
theorem dX2_init_38 : decode cX2_init 38 = .ok (.putfield 24, 3) := by decide +kernel
theorem dX2_init_41 : decode cX2_init 41 = .ok (.return_, 1) := by decide +kernel
theorem dX2_clear_0 : decode cX2_clear 0 = .ok (.aload_n 0, 1) := by decide +kernel
theorem dX2_clear_1 : decode cX2_clear 1 = .ok (.iconst 0, 1) := by decide +kernel
theorem dX2_clear_2 : decode cX2_clear 2 = .ok (.putfield 27, 3) := by decide +kernel
theorem dX2_clear_5 : decode cX2_clear 5 = .ok (.return_, 1) := by decide +kernel
theorem dX2_add_0 : decode cX2_add 0 = .ok (.aload_n 0, 1) := by decide +kernel
theorem dX2_add_1 : decode cX2_add 1 = .ok (.getfield 11, 3) := by decide +kernel
theorem dX2_add_4 : decode cX2_add 4 = .ok (.aload_n 0, 1) := by decide +kernel
theorem dX2_add_5 : decode cX2_add 5 = .ok (.getfield 27, 3) := by decide +kernel
theorem dX2_add_8 : decode cX2_add 8 = .ok (.aload_n 1, 1) := by decide +kernel
theorem dX2_add_9 : decode cX2_add 9 = .ok (.aastore, 1) := by decide +kernel
theorem dX2_add_10 : decode cX2_add 10 = .ok (.aload_n 0, 1) := by decide +kernel
theorem dX2_add_11 : decode cX2_add 11 = .ok (.getfield 17, 3) := by decide +kernel
theorem dX2_add_14 : decode cX2_add 14 = .ok (.aload_n 0, 1) := by decide +kernel
theorem dX2_add_15 : decode cX2_add 15 = .ok (.getfield 27, 3) := by decide +kernel
theorem dX2_add_18 : decode cX2_add 18 = .ok (.iload_n 2, 1) := by decide +kernel
theorem dX2_add_19 : decode cX2_add 19 = .ok (.iastore, 1) := by decide +kernel
theorem dX2_add_20 : decode cX2_add 20 = .ok (.aload_n 0, 1) := by decide +kernel
theorem dX2_add_21 : decode cX2_add 21 = .ok (.getfield 21, 3) := by decide +kernel
theorem dX2_add_24 : decode cX2_add 24 = .ok (.aload_n 0, 1) := by decide +kernel
theorem dX2_add_25 : decode cX2_add 25 = .ok (.getfield 27, 3) := by decide +kernel
theorem dX2_add_28 : decode cX2_add 28 = .ok (.iload_n 3, 1) := by decide +kernel
theorem dX2_add_29 : decode cX2_add 29 = .ok (.iastore, 1) := by decide +kernel
theorem dX2_add_30 : decode cX2_add 30 = .ok (.aload_n 0, 1) := by decide +kernel
theorem dX2_add_31 : decode cX2_add 31 = .ok (.getfield 24, 3) := by decide +kernel
theorem dX2_add_34 : decode cX2_add 34 = .ok (.aload_n 0, 1) := by decide +kernel
theorem dX2_add_35 : decode cX2_add 35 = .ok (.getfield 27, 3) := by decide +kernel
theorem dX2_add_38 : decode cX2_add 38 = .ok (.iload 4, 2) := by decide +kernel
theorem dX2_add_40 : decode cX2_add 40 = .ok (.iastore, 1) := by decide +kernel
theorem dX2_add_41 : decode cX2_add 41 = .ok (.aload_n 0, 1) := by decide +kernel
theorem dX2_add_42 : decode cX2_add 42 = .ok (.dup, 1) := by decide +kernel
theorem dX2_add_43 : decode cX2_add 43 = .ok (.getfield 27, 3) := by decide +kernel
theorem dX2_add_46 : decode cX2_add 46 = .ok (.iconst 1, 1) := by decide +kernel
theorem dX2_add_47 : decode cX2_add 47 = .ok (.iadd, 1) := by decide +kernel
theorem dX2_add_48 : decode cX2_add 48 = .ok (.putfield 27, 3) := by decide +kernel
theorem dX2_add_51 : decode cX2_add 51 = .ok (.aload_n 0, 1) := by decide +kernel
theorem dX2_add_52 : decode cX2_add 52 = .ok (.getfield 27, 3) := by decide +kernel
theorem dX2_add_55 : decode cX2_add 55 = .ok (.iconst 1, 1) := by decide +kernel
theorem dX2_add_56 : decode cX2_add 56 = .ok (.isub, 1) := by decide +kernel
theorem dX2_add_57 : decode cX2_add 57 = .ok (.ireturn, 1) := by decide +kernel
theorem dX3_init_0 : decode cX3_init 0 = .ok (.aload_n 0, 1) := by decide +kernel
theorem dX3_init_1 : decode cX3_init 1 = .ok (.invokespecial 3, 3) := by decide +kernel
theorem dX3_init_4 : decode cX3_init 4 = .ok (.aload_n 0, 1) := by decide +kernel
theorem dX3_init_5 : decode cX3_init 5 = .ok (.sipush 4000, 3) := by decide +kernel
theorem dX3_init_8 : decode cX3_init 8 = .ok (.newarray .byte, 2) := by decide +kernel
theorem dX3_init_10 : decode cX3_init 10 = .ok (.putfield 9, 3) := by decide +kernel
theorem dX3_init_13 : decode cX3_init 13 = .ok (.aload_n 0, 1) := by decide +kernel
theorem dX3_init_14 : decode cX3_init 14 = .ok (.sipush 2001, 3) := by decide +kernel
theorem dX3_init_17 : decode cX3_init 17 = .ok (.newarray .int, 2) := by decide +kernel
theorem dX3_init_19 : decode cX3_init 19 = .ok (.putfield 15, 3) := by decide +kernel
theorem dX3_init_22 : decode cX3_init 22 = .ok (.aload_n 0, 1) := by decide +kernel
theorem dX3_init_23 : decode cX3_init 23 = .ok (.sipush 2001, 3) := by decide +kernel
theorem dX3_init_26 : decode cX3_init 26 = .ok (.newarray .int, 2) := by decide +kernel
theorem dX3_init_28 : decode cX3_init 28 = .ok (.putfield 19, 3) := by decide +kernel
theorem dX3_init_31 : decode cX3_init 31 = .ok (.return_, 1) := by decide +kernel
theorem dX3_clear_0 : decode cX3_clear 0 = .ok (.aload_n 0, 1) := by decide +kernel
theorem dX3_clear_1 : decode cX3_clear 1 = .ok (.iconst 0, 1) := by decide +kernel
theorem dX3_clear_2 : decode cX3_clear 2 = .ok (.putfield 22, 3) := by decide +kernel
theorem dX3_clear_5 : decode cX3_clear 5 = .ok (.aload_n 0, 1) := by decide +kernel
theorem dX3_clear_6 : decode cX3_clear 6 = .ok (.iconst 0, 1) := by decide +kernel
theorem dX3_clear_7 : decode cX3_clear 7 = .ok (.putfield 26, 3) := by decide +kernel
theorem dX3_clear_10 : decode cX3_clear 10 = .ok (.return_, 1) := by decide +kernel
theorem dX3_number_0 : decode cX3_number 0 = .ok (.iconst 0, 1) := by decide +kernel
theorem dX3_number_1 : decode cX3_number 1 = .ok (.istore 4, 2) := by decide +kernel
theorem dX3_number_3 : decode cX3_number 3 = .ok (.iload 4, 2) := by decide +kernel
theorem dX3_number_5 : decode cX3_number 5 = .ok (.aload_n 0, 1) := by decide +kernel
theorem dX3_number_6 : decode cX3_number 6 = .ok (.getfield 22, 3) := by decide +kernel
theorem dX3_number_9 : decode cX3_number 9 = .ok (.if_icmp .ge 24, 3) := by decide +kernel
theorem dX3_number_12 : decode cX3_number 12 = .ok (.aload_n 0, 1) := by decide +kernel
theorem dX3_number_13 : decode cX3_number 13 = .ok (.iload 4, 2) := by decide +kernel
theorem dX3_number_15 : decode cX3_number 15 = .ok (.aload_n 1, 1) := by decide +kernel
theorem dX3_number_16 : decode cX3_number 16 = .ok (.iload_n 2, 1) := by decide +kernel
theorem dX3_number_17 : decode cX3_number 17 = .ok (.iload_n 3, 1) := by decide +kernel
theorem dX3_number_18 : decode cX3_number 18 = .ok (.invokevirtual 29, 3) := by decide +kernel
theorem dX3_number_21 : decode cX3_number 21 = .ok (.ifCond .eq 6, 3) := by decide +kernel
theorem dX3_number_24 : decode cX3_number 24 = .ok (.iload 4, 2) := by decide +kernel
theorem dX3_number_26 : decode cX3_number 26 = .ok (.ireturn, 1) := by decide +kernel
theorem dX3_number_27 : decode cX3_number 27 = .ok (.iinc 4 1, 3) := by decide +kernel
theorem dX3_number_30 : decode cX3_number 30 = .ok (.goto (-27), 3) := by decide +kernel
theorem dX3_number_33 : decode cX3_number 33 = .ok (.aload_n 0, 1) := by decide +kernel
theorem dX3_number_34 : decode cX3_number 34 = .ok (.getfield 15, 3) := by decide +kernel
theorem dX3_number_37 : decode cX3_number 37 = .ok (.aload_n 0, 1) := by decide +kernel
theorem dX3_number_38 : decode cX3_number 38 = .ok (.getfield 22, 3) := by decide +kernel
theorem dX3_number_41 : decode cX3_number 41 = .ok (.aload_n 0, 1) := by decide +kernel
theorem dX3_number_42 : decode cX3_number 42 = .ok (.getfield 26, 3) := by decide +kernel
theorem dX3_number_45 : decode cX3_number 45 = .ok (.iastore, 1) := by decide +kernel
theorem dX3_number_46 : decode cX3_number 46 = .ok (.aload_n 0, 1) := by decide +kernel
theorem dX3_number_47 : decode cX3_number 47 = .ok (.getfield 19, 3) := by decide +kernel
theorem dX3_number_50 : decode cX3_number 50 = .ok (.aload_n 0, 1) := by decide +kernel
theorem dX3_number_51 : decode cX3_number 51 = .ok (.getfield 22, 3) := by decide +kernel
theorem dX3_number_54 : decode cX3_number 54 = .ok (.iload_n 3, 1) := by decide +kernel
theorem dX3_number_55 : decode cX3_number 55 = .ok (.iastore, 1) := by decide +kernel
theorem dX3_number_56 : decode cX3_number 56 = .ok (.aload_n 1, 1) := by decide +kernel
theorem dX3_number_57 : decode cX3_number 57 = .ok (.iload_n 2, 1) := by decide +kernel
theorem dX3_number_58 : decode cX3_number 58 = .ok (.aload_n 0, 1) := by decide +kernel
theorem dX3_number_59 : decode cX3_number 59 = .ok (.getfield 9, 3) := by decide +kernel
theorem dX3_number_62 : decode cX3_number 62 = .ok (.aload_n 0, 1) := by decide +kernel
theorem dX3_number_63 : decode cX3_number 63 = .ok (.getfield 26, 3) := by decide +kernel
theorem dX3_number_66 : decode cX3_number 66 = .ok (.iload_n 3, 1) := by decide +kernel
theorem dX3_number_67 : decode cX3_number 67 = .ok (.invokestatic 33, 3) := by decide +kernel
theorem dX3_number_70 : decode cX3_number 70 = .ok (.aload_n 0, 1) := by decide +kernel
theorem dX3_number_71 : decode cX3_number 71 = .ok (.dup, 1) := by decide +kernel
theorem dX3_number_72 : decode cX3_number 72 = .ok (.getfield 26, 3) := by decide +kernel
theorem dX3_number_75 : decode cX3_number 75 = .ok (.iload_n 3, 1) := by decide +kernel
theorem dX3_number_76 : decode cX3_number 76 = .ok (.iadd, 1) := by decide +kernel
theorem dX3_number_77 : decode cX3_number 77 = .ok (.putfield 26, 3) := by decide +kernel
theorem dX3_number_80 : decode cX3_number 80 = .ok (.aload_n 0, 1) := by decide +kernel
theorem dX3_number_81 : decode cX3_number 81 = .ok (.dup, 1) := by decide +kernel
theorem dX3_number_82 : decode cX3_number 82 = .ok (.getfield 22, 3) := by decide +kernel
theorem dX3_number_85 : decode cX3_number 85 = .ok (.iconst 1, 1) := by decide +kernel
theorem dX3_number_86 : decode cX3_number 86 = .ok (.iadd, 1) := by decide +kernel
theorem dX3_number_87 : decode cX3_number 87 = .ok (.putfield 22, 3) := by decide +kernel
theorem dX3_number_90 : decode cX3_number 90 = .ok (.aload_n 0, 1) := by decide +kernel
theorem dX3_number_91 : decode cX3_number 91 = .ok (.getfield 22, 3) := by decide +kernel
theorem dX3_number_94 : decode cX3_number 94 = .ok (.iconst 1, 1) := by decide +kernel
theorem dX3_number_95 : decode cX3_number 95 = .ok (.isub, 1) := by decide +kernel
theorem dX3_number_96 : decode cX3_number 96 = .ok (.ireturn, 1) := by decide +kernel
theorem dX3_is_0 : decode cX3_is 0 = .ok (.aload_n 0, 1) := by decide +kernel
theorem dX3_is_1 : decode cX3_is 1 = .ok (.getfield 19, 3) := by decide +kernel
theorem dX3_is_4 : decode cX3_is 4 = .ok (.iload_n 1, 1) := by decide +kernel
theorem dX3_is_5 : decode cX3_is 5 = .ok (.iaload, 1) := by decide +kernel
theorem dX3_is_6 : decode cX3_is 6 = .ok (.iload 4, 2) := by decide +kernel
theorem dX3_is_8 : decode cX3_is 8 = .ok (.if_icmp .eq 5, 3) := by decide +kernel
theorem dX3_is_11 : decode cX3_is 11 = .ok (.iconst 0, 1) := by decide +kernel
theorem dX3_is_12 : decode cX3_is 12 = .ok (.ireturn, 1) := by decide +kernel
theorem dX3_is_13 : decode cX3_is 13 = .ok (.iconst 0, 1) := by decide +kernel
theorem dX3_is_14 : decode cX3_is 14 = .ok (.istore 5, 2) := by decide +kernel
theorem dX3_is_16 : decode cX3_is 16 = .ok (.iload 5, 2) := by decide +kernel
theorem dX3_is_18 : decode cX3_is 18 = .ok (.iload 4, 2) := by decide +kernel
theorem dX3_is_20 : decode cX3_is 20 = .ok (.if_icmp .ge 34, 3) := by decide +kernel
theorem dX3_is_23 : decode cX3_is 23 = .ok (.aload_n 0, 1) := by decide +kernel
theorem dX3_is_24 : decode cX3_is 24 = .ok (.getfield 9, 3) := by decide +kernel
theorem dX3_is_27 : decode cX3_is 27 = .ok (.aload_n 0, 1) := by decide +kernel
theorem dX3_is_28 : decode cX3_is 28 = .ok (.getfield 15, 3) := by decide +kernel
theorem dX3_is_31 : decode cX3_is 31 = .ok (.iload_n 1, 1) := by decide +kernel
theorem dX3_is_32 : decode cX3_is 32 = .ok (.iaload, 1) := by decide +kernel
theorem dX3_is_33 : decode cX3_is 33 = .ok (.iload 5, 2) := by decide +kernel
theorem dX3_is_35 : decode cX3_is 35 = .ok (.iadd, 1) := by decide +kernel
theorem dX3_is_36 : decode cX3_is 36 = .ok (.baload, 1) := by decide +kernel
theorem dX3_is_37 : decode cX3_is 37 = .ok (.aload_n 2, 1) := by decide +kernel
theorem dX3_is_38 : decode cX3_is 38 = .ok (.iload_n 3, 1) := by decide +kernel
theorem dX3_is_39 : decode cX3_is 39 = .ok (.iload 5, 2) := by decide +kernel
theorem dX3_is_41 : decode cX3_is 41 = .ok (.iadd, 1) := by decide +kernel
theorem dX3_is_42 : decode cX3_is 42 = .ok (.baload, 1) := by decide +kernel
theorem dX3_is_43 : decode cX3_is 43 = .ok (.if_icmp .eq 5, 3) := by decide +kernel
theorem dX3_is_46 : decode cX3_is 46 = .ok (.iconst 0, 1) := by decide +kernel
theorem dX3_is_47 : decode cX3_is 47 = .ok (.ireturn, 1) := by decide +kernel
theorem dX3_is_48 : decode cX3_is 48 = .ok (.iinc 5 1, 3) := by decide +kernel
theorem dX3_is_51 : decode cX3_is 51 = .ok (.goto (-35), 3) := by decide +kernel
theorem dX3_is_54 : decode cX3_is 54 = .ok (.iconst 1, 1) := by decide +kernel
theorem dX3_is_55 : decode cX3_is 55 = .ok (.ireturn, 1) := by decide +kernel
theorem dX4_init_0 : decode cX4_init 0 = .ok (.aload_n 0, 1) := by decide +kernel
theorem dX4_init_1 : decode cX4_init 1 = .ok (.invokespecial 3, 3) := by decide +kernel
theorem dX4_init_4 : decode cX4_init 4 = .ok (.return_, 1) := by decide +kernel
theorem dX4_clear_0 : decode cX4_clear 0 = .ok (.aload_n 0, 1) := by decide +kernel
theorem dX4_clear_1 : decode cX4_clear 1 = .ok (.iconst 0, 1) := by decide +kernel
theorem dX4_clear_2 : decode cX4_clear 2 = .ok (.putfield 9, 3) := by decide +kernel
theorem dX4_clear_5 : decode cX4_clear 5 = .ok (.aload_n 0, 1) := by decide +kernel
theorem dX4_clear_6 : decode cX4_clear 6 = .ok (.iconst (-1), 1) := by decide +kernel
theorem dX4_clear_7 : decode cX4_clear 7 = .ok (.putfield 15, 3) := by decide +kernel
theorem dX4_clear_10 : decode cX4_clear 10 = .ok (.return_, 1) := by decide +kernel
theorem dX4_is_0 : decode cX4_is 0 = .ok (.aload_n 0, 1) := by decide +kernel
theorem dX4_is_1 : decode cX4_is 1 = .ok (.getfield 9, 3) := by decide +kernel
theorem dX4_is_4 : decode cX4_is 4 = .ok (.ifCond .eq 7, 3) := by decide +kernel
theorem dX4_is_7 : decode cX4_is 7 = .ok (.iconst 1, 1) := by decide +kernel
theorem dX4_is_8 : decode cX4_is 8 = .ok (.goto 4, 3) := by decide +kernel
theorem dX4_is_11 : decode cX4_is 11 = .ok (.iconst 0, 1) := by decide +kernel
theorem dX4_is_12 : decode cX4_is 12 = .ok (.ireturn, 1) := by decide +kernel
theorem dX4_set_0 : decode cX4_set 0 = .ok (.aload_n 0, 1) := by decide +kernel
theorem dX4_set_1 : decode cX4_set 1 = .ok (.getfield 9, 3) := by decide +kernel
theorem dX4_set_4 : decode cX4_set 4 = .ok (.ifCond .eq 4, 3) := by decide +kernel
theorem dX4_set_7 : decode cX4_set 7 = .ok (.return_, 1) := by decide +kernel
theorem dX4_set_8 : decode cX4_set 8 = .ok (.aload_n 0, 1) := by decide +kernel
theorem dX4_set_9 : decode cX4_set 9 = .ok (.iload_n 1, 1) := by decide +kernel
theorem dX4_set_10 : decode cX4_set 10 = .ok (.putfield 9, 3) := by decide +kernel
theorem dX4_set_13 : decode cX4_set 13 = .ok (.aload_n 0, 1) := by decide +kernel
theorem dX4_set_14 : decode cX4_set 14 = .ok (.iload_n 2, 1) := by decide +kernel
theorem dX4_set_15 : decode cX4_set 15 = .ok (.putfield 15, 3) := by decide +kernel
theorem dX4_set_18 : decode cX4_set 18 = .ok (.return_, 1) := by decide +kernel
theorem dX5_init_0 : decode cX5_init 0 = .ok (.aload_n 0, 1) := by decide +kernel
theorem dX5_init_1 : decode cX5_init 1 = .ok (.invokespecial 3, 3) := by decide +kernel
theorem dX5_init_4 : decode cX5_init 4 = .ok (.aload_n 0, 1) := by decide +kernel
theorem dX5_init_5 : decode cX5_init 5 = .ok (.ldc 9, 2) := by decide +kernel
theorem dX5_init_7 : decode cX5_init 7 = .ok (.newarray .int, 2) := by decide +kernel
theorem dX5_init_9 : decode cX5_init 9 = .ok (.putfield 10, 3) := by decide +kernel
theorem dX5_init_12 : decode cX5_init 12 = .ok (.aload_n 0, 1) := by decide +kernel
theorem dX5_init_13 : decode cX5_init 13 = .ok (.ldc 9, 2) := by decide +kernel
theorem dX5_init_15 : decode cX5_init 15 = .ok (.newarray .int, 2) := by decide +kernel
theorem dX5_init_17 : decode cX5_init 17 = .ok (.putfield 16, 3) := by decide +kernel
theorem dX5_init_20 : decode cX5_init 20 = .ok (.aload_n 0, 1) := by decide +kernel
theorem dX5_init_21 : decode cX5_init 21 = .ok (.ldc 9, 2) := by decide +kernel
theorem dX5_init_23 : decode cX5_init 23 = .ok (.newarray .short, 2) := by decide +kernel
theorem dX5_init_25 : decode cX5_init 25 = .ok (.putfield 19, 3) := by decide +kernel
theorem dX5_init_28 : decode cX5_init 28 = .ok (.aload_n 0, 1) := by decide +kernel
theorem dX5_init_29 : decode cX5_init 29 = .ok (.ldc 9, 2) := by decide +kernel
theorem dX5_init_31 : decode cX5_init 31 = .ok (.newarray .boolean, 2) := by decide +kernel
theorem dX5_init_33 : decode cX5_init 33 = .ok (.putfield 23, 3) := by decide +kernel
theorem dX5_init_36 : decode cX5_init 36 = .ok (.return_, 1) := by decide +kernel
theorem dX5_clear_0 : decode cX5_clear 0 = .ok (.aload_n 0, 1) := by decide +kernel
theorem dX5_clear_1 : decode cX5_clear 1 = .ok (.iconst 0, 1) := by decide +kernel
theorem dX5_clear_2 : decode cX5_clear 2 = .ok (.putfield 27, 3) := by decide +kernel
theorem dX5_clear_5 : decode cX5_clear 5 = .ok (.aload_n 0, 1) := by decide +kernel
theorem dX5_clear_6 : decode cX5_clear 6 = .ok (.iconst 0, 1) := by decide +kernel
theorem dX5_clear_7 : decode cX5_clear 7 = .ok (.putfield 31, 3) := by decide +kernel
theorem dX5_clear_10 : decode cX5_clear 10 = .ok (.aload_n 0, 1) := by decide +kernel
theorem dX5_clear_11 : decode cX5_clear 11 = .ok (.iconst 0, 1) := by decide +kernel
theorem dX5_clear_12 : decode cX5_clear 12 = .ok (.putfield 34, 3) := by decide +kernel
theorem dX5_clear_15 : decode cX5_clear 15 = .ok (.aload_n 0, 1) := by decide +kernel
theorem dX5_clear_16 : decode cX5_clear 16 = .ok (.iload_n 1, 1) := by decide +kernel
theorem dX5_clear_17 : decode cX5_clear 17 = .ok (.putfield 37, 3) := by decide +kernel
theorem dX5_clear_20 : decode cX5_clear 20 = .ok (.aload_n 0, 1) := by decide +kernel
theorem dX5_clear_21 : decode cX5_clear 21 = .ok (.iconst 0, 1) := by decide +kernel
theorem dX5_clear_22 : decode cX5_clear 22 = .ok (.putfield 40, 3) := by decide +kernel
theorem dX5_clear_25 : decode cX5_clear 25 = .ok (.return_, 1) := by decide +kernel
theorem dX5_xor_0 : decode cX5_xor 0 = .ok (.iload_n 1, 1) := by decide +kernel
theorem dX5_xor_1 : decode cX5_xor 1 = .ok (.ifCond .lt 7, 3) := by decide +kernel
theorem dX5_xor_4 : decode cX5_xor 4 = .ok (.iload_n 2, 1) := by decide +kernel
theorem dX5_xor_5 : decode cX5_xor 5 = .ok (.ifCond .ge 21, 3) := by decide +kernel
theorem dX5_xor_8 : decode cX5_xor 8 = .ok (.iload_n 1, 1) := by decide +kernel
theorem dX5_xor_9 : decode cX5_xor 9 = .ok (.ifCond .ge 11, 3) := by decide +kernel
theorem dX5_xor_12 : decode cX5_xor 12 = .ok (.iload_n 2, 1) := by decide +kernel
theorem dX5_xor_13 : decode cX5_xor 13 = .ok (.iload_n 1, 1) := by decide +kernel
theorem dX5_xor_14 : decode cX5_xor 14 = .ok (.iconst 1, 1) := by decide +kernel
theorem dX5_xor_15 : decode cX5_xor 15 = .ok (.iand, 1) := by decide +kernel
theorem dX5_xor_16 : decode cX5_xor 16 = .ok (.ixor, 1) := by decide +kernel
theorem dX5_xor_17 : decode cX5_xor 17 = .ok (.goto 8, 3) := by decide +kernel
theorem dX5_xor_20 : decode cX5_xor 20 = .ok (.iload_n 1, 1) := by decide +kernel
theorem dX5_xor_21 : decode cX5_xor 21 = .ok (.iload_n 2, 1) := by decide +kernel
theorem dX5_xor_22 : decode cX5_xor 22 = .ok (.iconst 1, 1) := by decide +kernel
theorem dX5_xor_23 : decode cX5_xor 23 = .ok (.iand, 1) := by decide +kernel
theorem dX5_xor_24 : decode cX5_xor 24 = .ok (.ixor, 1) := by decide +kernel
theorem dX5_xor_25 : decode cX5_xor 25 = .ok (.ireturn, 1) := by decide +kernel
theorem dX5_xor_26 : decode cX5_xor 26 = .ok (.iload_n 1, 1) := by decide +kernel
theorem dX5_xor_27 : decode cX5_xor 27 = .ok (.iconst 2, 1) := by decide +kernel
theorem dX5_xor_28 : decode cX5_xor 28 = .ok (.idiv, 1) := by decide +kernel
theorem dX5_xor_29 : decode cX5_xor 29 = .ok (.iload_n 2, 1) := by decide +kernel
theorem dX5_xor_30 : decode cX5_xor 30 = .ok (.iconst 2, 1) := by decide +kernel
theorem dX5_xor_31 : decode cX5_xor 31 = .ok (.idiv, 1) := by decide +kernel
theorem dX5_xor_32 : decode cX5_xor 32 = .ok (.if_icmp .ne 15, 3) := by decide +kernel
theorem dX5_xor_35 : decode cX5_xor 35 = .ok (.iload_n 1, 1) := by decide +kernel
theorem dX5_xor_36 : decode cX5_xor 36 = .ok (.iload_n 2, 1) := by decide +kernel
theorem dX5_xor_37 : decode cX5_xor 37 = .ok (.if_icmp .ne 8, 3) := by decide +kernel
theorem dX5_xor_40 : decode cX5_xor 40 = .ok (.bipush (-2), 2) := by decide +kernel
theorem dX5_xor_42 : decode cX5_xor 42 = .ok (.goto 4, 3) := by decide +kernel
theorem dX5_xor_45 : decode cX5_xor 45 = .ok (.iconst (-1), 1) := by decide +kernel
theorem dX5_xor_46 : decode cX5_xor 46 = .ok (.ireturn, 1) := by decide +kernel
theorem dX5_xor_47 : decode cX5_xor 47 = .ok (.aload_n 0, 1) := by decide +kernel
theorem dX5_xor_48 : decode cX5_xor 48 = .ok (.iconst 0, 1) := by decide +kernel
theorem dX5_xor_49 : decode cX5_xor 49 = .ok (.iload_n 1, 1) := by decide +kernel
theorem dX5_xor_50 : decode cX5_xor 50 = .ok (.bipush (-2), 2) := by decide +kernel
theorem dX5_xor_52 : decode cX5_xor 52 = .ok (.iand, 1) := by decide +kernel
theorem dX5_xor_53 : decode cX5_xor 53 = .ok (.iload_n 2, 1) := by decide +kernel
theorem dX5_xor_54 : decode cX5_xor 54 = .ok (.bipush (-2), 2) := by decide +kernel
theorem dX5_xor_56 : decode cX5_xor 56 = .ok (.iand, 1) := by decide +kernel
theorem dX5_xor_57 : decode cX5_xor 57 = .ok (.invokevirtual 54, 3) := by decide +kernel
theorem dX5_xor_60 : decode cX5_xor 60 = .ok (.iload_n 1, 1) := by decide +kernel
theorem dX5_xor_61 : decode cX5_xor 61 = .ok (.iload_n 2, 1) := by decide +kernel
theorem dX5_xor_62 : decode cX5_xor 62 = .ok (.ixor, 1) := by decide +kernel
theorem dX5_xor_63 : decode cX5_xor 63 = .ok (.iconst 1, 1) := by decide +kernel
theorem dX5_xor_64 : decode cX5_xor 64 = .ok (.iand, 1) := by decide +kernel
theorem dX5_xor_65 : decode cX5_xor 65 = .ok (.ixor, 1) := by decide +kernel
theorem dX5_xor_66 : decode cX5_xor 66 = .ok (.ireturn, 1) := by decide +kernel
theorem dX5_gate_0 : decode cX5_gate 0 = .ok (.aload_n 0, 1) := by decide +kernel
theorem dX5_gate_1 : decode cX5_gate 1 = .ok (.iload_n 2, 1) := by decide +kernel
theorem dX5_gate_2 : decode cX5_gate 2 = .ok (.invokevirtual 44, 3) := by decide +kernel
theorem dX5_gate_5 : decode cX5_gate 5 = .ok (.aload_n 0, 1) := by decide +kernel
theorem dX5_gate_6 : decode cX5_gate 6 = .ok (.iload_n 3, 1) := by decide +kernel
theorem dX5_gate_7 : decode cX5_gate 7 = .ok (.invokevirtual 44, 3) := by decide +kernel
theorem dX5_gate_10 : decode cX5_gate 10 = .ok (.invokestatic 48, 3) := by decide +kernel
theorem dX5_gate_13 : decode cX5_gate 13 = .ok (.iload_n 1, 1) := by decide +kernel
theorem dX5_gate_14 : decode cX5_gate 14 = .ok (.ifCond .eq 7, 3) := by decide +kernel
theorem dX5_gate_17 : decode cX5_gate 17 = .ok (.iconst 1, 1) := by decide +kernel
theorem dX5_gate_18 : decode cX5_gate 18 = .ok (.goto 4, 3) := by decide +kernel
theorem dX5_gate_21 : decode cX5_gate 21 = .ok (.iconst 0, 1) := by decide +kernel
theorem dX5_gate_22 : decode cX5_gate 22 = .ok (.iadd, 1) := by decide +kernel
theorem dX5_gate_23 : decode cX5_gate 23 = .ok (.istore 4, 2) := by decide +kernel
theorem dX5_gate_25 : decode cX5_gate 25 = .ok (.aload_n 0, 1) := by decide +kernel
theorem dX5_gate_26 : decode cX5_gate 26 = .ok (.getfield 27, 3) := by decide +kernel
theorem dX5_gate_29 : decode cX5_gate 29 = .ok (.ldc 9, 2) := by decide +kernel
theorem dX5_gate_31 : decode cX5_gate 31 = .ok (.if_icmp .eq 11, 3) := by decide +kernel
theorem dX5_gate_34 : decode cX5_gate 34 = .ok (.iload 4, 2) := by decide +kernel
theorem dX5_gate_36 : decode cX5_gate 36 = .ok (.sipush 2000, 3) := by decide +kernel
theorem dX5_gate_39 : decode cX5_gate 39 = .ok (.if_icmp .le 8, 3) := by decide +kernel
theorem dX5_gate_42 : decode cX5_gate 42 = .ok (.aload_n 0, 1) := by decide +kernel
theorem dX5_gate_43 : decode cX5_gate 43 = .ok (.iconst 1, 1) := by decide +kernel
theorem dX5_gate_44 : decode cX5_gate 44 = .ok (.putfield 40, 3) := by decide +kernel
theorem dX5_gate_47 : decode cX5_gate 47 = .ok (.aload_n 0, 1) := by decide +kernel
theorem dX5_gate_48 : decode cX5_gate 48 = .ok (.getfield 40, 3) := by decide +kernel
theorem dX5_gate_51 : decode cX5_gate 51 = .ok (.ifCond .eq 6, 3) := by decide +kernel
theorem dX5_gate_54 : decode cX5_gate 54 = .ok (.bipush (-2), 2) := by decide +kernel
theorem dX5_gate_56 : decode cX5_gate 56 = .ok (.ireturn, 1) := by decide +kernel
theorem dX5_gate_57 : decode cX5_gate 57 = .ok (.aload_n 0, 1) := by decide +kernel
theorem dX5_gate_58 : decode cX5_gate 58 = .ok (.getfield 10, 3) := by decide +kernel
theorem dX5_gate_61 : decode cX5_gate 61 = .ok (.aload_n 0, 1) := by decide +kernel
theorem dX5_gate_62 : decode cX5_gate 62 = .ok (.getfield 27, 3) := by decide +kernel
theorem dX5_gate_65 : decode cX5_gate 65 = .ok (.iload_n 2, 1) := by decide +kernel
theorem dX5_gate_66 : decode cX5_gate 66 = .ok (.iastore, 1) := by decide +kernel
theorem dX5_gate_67 : decode cX5_gate 67 = .ok (.aload_n 0, 1) := by decide +kernel
theorem dX5_gate_68 : decode cX5_gate 68 = .ok (.getfield 16, 3) := by decide +kernel
theorem dX5_gate_71 : decode cX5_gate 71 = .ok (.aload_n 0, 1) := by decide +kernel
theorem dX5_gate_72 : decode cX5_gate 72 = .ok (.getfield 27, 3) := by decide +kernel
theorem dX5_gate_75 : decode cX5_gate 75 = .ok (.iload_n 3, 1) := by decide +kernel
theorem dX5_gate_76 : decode cX5_gate 76 = .ok (.iastore, 1) := by decide +kernel
theorem dX5_gate_77 : decode cX5_gate 77 = .ok (.aload_n 0, 1) := by decide +kernel
theorem dX5_gate_78 : decode cX5_gate 78 = .ok (.getfield 23, 3) := by decide +kernel
theorem dX5_gate_81 : decode cX5_gate 81 = .ok (.aload_n 0, 1) := by decide +kernel
theorem dX5_gate_82 : decode cX5_gate 82 = .ok (.getfield 27, 3) := by decide +kernel
theorem dX5_gate_85 : decode cX5_gate 85 = .ok (.iload_n 1, 1) := by decide +kernel
theorem dX5_gate_86 : decode cX5_gate 86 = .ok (.bastore, 1) := by decide +kernel
theorem dX5_gate_87 : decode cX5_gate 87 = .ok (.aload_n 0, 1) := by decide +kernel
theorem dX5_gate_88 : decode cX5_gate 88 = .ok (.getfield 19, 3) := by decide +kernel
theorem dX5_gate_91 : decode cX5_gate 91 = .ok (.aload_n 0, 1) := by decide +kernel
theorem dX5_gate_92 : decode cX5_gate 92 = .ok (.getfield 27, 3) := by decide +kernel
theorem dX5_gate_95 : decode cX5_gate 95 = .ok (.iload 4, 2) := by decide +kernel
theorem dX5_gate_97 : decode cX5_gate 97 = .ok (.i2s, 1) := by decide +kernel
theorem dX5_gate_98 : decode cX5_gate 98 = .ok (.sastore, 1) := by decide +kernel
theorem dX5_gate_99 : decode cX5_gate 99 = .ok (.aload_n 0, 1) := by decide +kernel
theorem dX5_gate_100 : decode cX5_gate 100 = .ok (.dup, 1) := by decide +kernel
theorem dX5_gate_101 : decode cX5_gate 101 = .ok (.getfield 31, 3) := by decide +kernel
theorem dX5_gate_104 : decode cX5_gate 104 = .ok (.iload_n 1, 1) := by decide +kernel
theorem dX5_gate_105 : decode cX5_gate 105 = .ok (.ifCond .eq 7, 3) := by decide +kernel
theorem dX5_gate_108 : decode cX5_gate 108 = .ok (.iconst 1, 1) := by decide +kernel
theorem dX5_gate_109 : decode cX5_gate 109 = .ok (.goto 4, 3) := by decide +kernel
theorem dX5_gate_112 : decode cX5_gate 112 = .ok (.iconst 0, 1) := by decide +kernel
theorem dX5_gate_113 : decode cX5_gate 113 = .ok (.iadd, 1) := by decide +kernel
theorem dX5_gate_114 : decode cX5_gate 114 = .ok (.putfield 31, 3) := by decide +kernel
theorem dX5_gate_117 : decode cX5_gate 117 = .ok (.aload_n 0, 1) := by decide +kernel
theorem dX5_gate_118 : decode cX5_gate 118 = .ok (.aload_n 0, 1) := by decide +kernel
theorem dX5_gate_119 : decode cX5_gate 119 = .ok (.getfield 34, 3) := by decide +kernel
theorem dX5_gate_122 : decode cX5_gate 122 = .ok (.iload 4, 2) := by decide +kernel
theorem dX5_gate_124 : decode cX5_gate 124 = .ok (.invokestatic 48, 3) := by decide +kernel
theorem dX5_gate_127 : decode cX5_gate 127 = .ok (.putfield 34, 3) := by decide +kernel
theorem dX5_gate_130 : decode cX5_gate 130 = .ok (.aload_n 0, 1) := by decide +kernel
theorem dX5_gate_131 : decode cX5_gate 131 = .ok (.dup, 1) := by decide +kernel
theorem dX5_gate_132 : decode cX5_gate 132 = .ok (.getfield 27, 3) := by decide +kernel
theorem dX5_gate_135 : decode cX5_gate 135 = .ok (.iconst 1, 1) := by decide +kernel
theorem dX5_gate_136 : decode cX5_gate 136 = .ok (.iadd, 1) := by decide +kernel
theorem dX5_gate_137 : decode cX5_gate 137 = .ok (.putfield 27, 3) := by decide +kernel
theorem dX5_gate_140 : decode cX5_gate 140 = .ok (.iconst 2, 1) := by decide +kernel
theorem dX5_gate_141 : decode cX5_gate 141 = .ok (.aload_n 0, 1) := by decide +kernel
theorem dX5_gate_142 : decode cX5_gate 142 = .ok (.getfield 37, 3) := by decide +kernel
theorem dX5_gate_145 : decode cX5_gate 145 = .ok (.aload_n 0, 1) := by decide +kernel
theorem dX5_gate_146 : decode cX5_gate 146 = .ok (.getfield 27, 3) := by decide +kernel
theorem dX5_gate_149 : decode cX5_gate 149 = .ok (.iadd, 1) := by decide +kernel
theorem dX5_gate_150 : decode cX5_gate 150 = .ok (.iconst 1, 1) := by decide +kernel
theorem dX5_gate_151 : decode cX5_gate 151 = .ok (.isub, 1) := by decide +kernel
theorem dX5_gate_152 : decode cX5_gate 152 = .ok (.imul, 1) := by decide +kernel
theorem dX5_gate_153 : decode cX5_gate 153 = .ok (.ireturn, 1) := by decide +kernel
theorem dX5_levelOf_0 : decode cX5_levelOf 0 = .ok (.iload_n 1, 1) := by decide +kernel
theorem dX5_levelOf_1 : decode cX5_levelOf 1 = .ok (.iconst 2, 1) := by decide +kernel
theorem dX5_levelOf_2 : decode cX5_levelOf 2 = .ok (.aload_n 0, 1) := by decide +kernel
theorem dX5_levelOf_3 : decode cX5_levelOf 3 = .ok (.getfield 37, 3) := by decide +kernel
theorem dX5_levelOf_6 : decode cX5_levelOf 6 = .ok (.imul, 1) := by decide +kernel
theorem dX5_levelOf_7 : decode cX5_levelOf 7 = .ok (.if_icmp .ge 7, 3) := by decide +kernel
theorem dX5_levelOf_10 : decode cX5_levelOf 10 = .ok (.iconst 0, 1) := by decide +kernel
theorem dX5_levelOf_11 : decode cX5_levelOf 11 = .ok (.goto 16, 3) := by decide +kernel
theorem dX5_levelOf_14 : decode cX5_levelOf 14 = .ok (.aload_n 0, 1) := by decide +kernel
theorem dX5_levelOf_15 : decode cX5_levelOf 15 = .ok (.getfield 19, 3) := by decide +kernel
theorem dX5_levelOf_18 : decode cX5_levelOf 18 = .ok (.iload_n 1, 1) := by decide +kernel
theorem dX5_levelOf_19 : decode cX5_levelOf 19 = .ok (.iconst 2, 1) := by decide +kernel
theorem dX5_levelOf_20 : decode cX5_levelOf 20 = .ok (.idiv, 1) := by decide +kernel
theorem dX5_levelOf_21 : decode cX5_levelOf 21 = .ok (.aload_n 0, 1) := by decide +kernel
theorem dX5_levelOf_22 : decode cX5_levelOf 22 = .ok (.getfield 37, 3) := by decide +kernel
theorem dX5_levelOf_25 : decode cX5_levelOf 25 = .ok (.isub, 1) := by decide +kernel
theorem dX5_levelOf_26 : decode cX5_levelOf 26 = .ok (.saload, 1) := by decide +kernel
theorem dX5_levelOf_27 : decode cX5_levelOf 27 = .ok (.ireturn, 1) := by decide +kernel
theorem dX5_and_0 : decode cX5_and 0 = .ok (.iload_n 1, 1) := by decide +kernel
theorem dX5_and_1 : decode cX5_and 1 = .ok (.ifCond .lt 7, 3) := by decide +kernel
theorem dX5_and_4 : decode cX5_and 4 = .ok (.iload_n 2, 1) := by decide +kernel
theorem dX5_and_5 : decode cX5_and 5 = .ok (.ifCond .ge 31, 3) := by decide +kernel
theorem dX5_and_8 : decode cX5_and 8 = .ok (.iload_n 1, 1) := by decide +kernel
theorem dX5_and_9 : decode cX5_and 9 = .ok (.bipush (-2), 2) := by decide +kernel
theorem dX5_and_11 : decode cX5_and 11 = .ok (.if_icmp .eq 9, 3) := by decide +kernel
theorem dX5_and_14 : decode cX5_and 14 = .ok (.iload_n 2, 1) := by decide +kernel
theorem dX5_and_15 : decode cX5_and 15 = .ok (.bipush (-2), 2) := by decide +kernel
theorem dX5_and_17 : decode cX5_and 17 = .ok (.if_icmp .ne 8, 3) := by decide +kernel
theorem dX5_and_20 : decode cX5_and 20 = .ok (.bipush (-2), 2) := by decide +kernel
theorem dX5_and_22 : decode cX5_and 22 = .ok (.goto 13, 3) := by decide +kernel
theorem dX5_and_25 : decode cX5_and 25 = .ok (.iload_n 1, 1) := by decide +kernel
theorem dX5_and_26 : decode cX5_and 26 = .ok (.iconst (-1), 1) := by decide +kernel
theorem dX5_and_27 : decode cX5_and 27 = .ok (.if_icmp .ne 7, 3) := by decide +kernel
theorem dX5_and_30 : decode cX5_and 30 = .ok (.iload_n 2, 1) := by decide +kernel
theorem dX5_and_31 : decode cX5_and 31 = .ok (.goto 4, 3) := by decide +kernel
theorem dX5_and_34 : decode cX5_and 34 = .ok (.iload_n 1, 1) := by decide +kernel
theorem dX5_and_35 : decode cX5_and 35 = .ok (.ireturn, 1) := by decide +kernel
theorem dX5_and_36 : decode cX5_and 36 = .ok (.iload_n 1, 1) := by decide +kernel
theorem dX5_and_37 : decode cX5_and 37 = .ok (.iconst 2, 1) := by decide +kernel
theorem dX5_and_38 : decode cX5_and 38 = .ok (.idiv, 1) := by decide +kernel
theorem dX5_and_39 : decode cX5_and 39 = .ok (.iload_n 2, 1) := by decide +kernel
theorem dX5_and_40 : decode cX5_and 40 = .ok (.iconst 2, 1) := by decide +kernel
theorem dX5_and_41 : decode cX5_and 41 = .ok (.idiv, 1) := by decide +kernel
theorem dX5_and_42 : decode cX5_and 42 = .ok (.if_icmp .ne 15, 3) := by decide +kernel
theorem dX5_and_45 : decode cX5_and 45 = .ok (.iload_n 1, 1) := by decide +kernel
theorem dX5_and_46 : decode cX5_and 46 = .ok (.iload_n 2, 1) := by decide +kernel
theorem dX5_and_47 : decode cX5_and 47 = .ok (.if_icmp .ne 7, 3) := by decide +kernel
theorem dX5_and_50 : decode cX5_and 50 = .ok (.iload_n 1, 1) := by decide +kernel
theorem dX5_and_51 : decode cX5_and 51 = .ok (.goto 5, 3) := by decide +kernel
theorem dX5_and_54 : decode cX5_and 54 = .ok (.bipush (-2), 2) := by decide +kernel
theorem dX5_and_56 : decode cX5_and 56 = .ok (.ireturn, 1) := by decide +kernel
theorem dX5_and_57 : decode cX5_and 57 = .ok (.aload_n 0, 1) := by decide +kernel
theorem dX5_and_58 : decode cX5_and 58 = .ok (.iconst 1, 1) := by decide +kernel
theorem dX5_and_59 : decode cX5_and 59 = .ok (.iload_n 1, 1) := by decide +kernel
theorem dX5_and_60 : decode cX5_and 60 = .ok (.iload_n 2, 1) := by decide +kernel
theorem dX5_and_61 : decode cX5_and 61 = .ok (.invokevirtual 54, 3) := by decide +kernel
theorem dX5_and_64 : decode cX5_and 64 = .ok (.ireturn, 1) := by decide +kernel
theorem dX5_mux_0 : decode cX5_mux 0 = .ok (.aload_n 0, 1) := by decide +kernel
theorem dX5_mux_1 : decode cX5_mux 1 = .ok (.iload_n 3, 1) := by decide +kernel
theorem dX5_mux_2 : decode cX5_mux 2 = .ok (.aload_n 0, 1) := by decide +kernel
theorem dX5_mux_3 : decode cX5_mux 3 = .ok (.iload_n 1, 1) := by decide +kernel
theorem dX5_mux_4 : decode cX5_mux 4 = .ok (.aload_n 0, 1) := by decide +kernel
theorem dX5_mux_5 : decode cX5_mux 5 = .ok (.iload_n 2, 1) := by decide +kernel
theorem dX5_mux_6 : decode cX5_mux 6 = .ok (.iload_n 3, 1) := by decide +kernel
theorem dX5_mux_7 : decode cX5_mux 7 = .ok (.invokevirtual 61, 3) := by decide +kernel
theorem dX5_mux_10 : decode cX5_mux 10 = .ok (.invokevirtual 58, 3) := by decide +kernel
theorem dX5_mux_13 : decode cX5_mux 13 = .ok (.invokevirtual 61, 3) := by decide +kernel
theorem dX5_mux_16 : decode cX5_mux 16 = .ok (.ireturn, 1) := by decide +kernel
theorem dX5_or_0 : decode cX5_or 0 = .ok (.aload_n 0, 1) := by decide +kernel
theorem dX5_or_1 : decode cX5_or 1 = .ok (.iload_n 1, 1) := by decide +kernel
theorem dX5_or_2 : decode cX5_or 2 = .ok (.iconst 1, 1) := by decide +kernel
theorem dX5_or_3 : decode cX5_or 3 = .ok (.ixor, 1) := by decide +kernel
theorem dX5_or_4 : decode cX5_or 4 = .ok (.iload_n 2, 1) := by decide +kernel
theorem dX5_or_5 : decode cX5_or 5 = .ok (.iconst 1, 1) := by decide +kernel
theorem dX5_or_6 : decode cX5_or 6 = .ok (.ixor, 1) := by decide +kernel
theorem dX5_or_7 : decode cX5_or 7 = .ok (.invokevirtual 58, 3) := by decide +kernel
theorem dX5_or_10 : decode cX5_or 10 = .ok (.iconst 1, 1) := by decide +kernel
theorem dX5_or_11 : decode cX5_or 11 = .ok (.ixor, 1) := by decide +kernel
theorem dX5_or_12 : decode cX5_or 12 = .ok (.ireturn, 1) := by decide +kernel
theorem dX6_init_0 : decode cX6_init 0 = .ok (.aload_n 0, 1) := by decide +kernel
theorem dX6_init_1 : decode cX6_init 1 = .ok (.invokespecial 3, 3) := by decide +kernel
theorem dX6_init_4 : decode cX6_init 4 = .ok (.aload_n 0, 1) := by decide +kernel
theorem dX6_init_5 : decode cX6_init 5 = .ok (.new 9, 3) := by decide +kernel
theorem dX6_init_8 : decode cX6_init 8 = .ok (.dup, 1) := by decide +kernel
theorem dX6_init_9 : decode cX6_init 9 = .ok (.sipush 2000, 3) := by decide +kernel
theorem dX6_init_12 : decode cX6_init 12 = .ok (.invokespecial 11, 3) := by decide +kernel
theorem dX6_init_15 : decode cX6_init 15 = .ok (.putfield 14, 3) := by decide +kernel
theorem dX6_init_18 : decode cX6_init 18 = .ok (.aload_n 0, 1) := by decide +kernel
theorem dX6_init_19 : decode cX6_init 19 = .ok (.iconst 1, 1) := by decide +kernel
theorem dX6_init_20 : decode cX6_init 20 = .ok (.putfield 20, 3) := by decide +kernel
theorem dX6_init_23 : decode cX6_init 23 = .ok (.return_, 1) := by decide +kernel
theorem dX6_add_0 : decode cX6_add 0 = .ok (.aload_n 0, 1) := by decide +kernel
theorem dX6_add_1 : decode cX6_add 1 = .ok (.getfield 24, 3) := by decide +kernel
theorem dX6_add_4 : decode cX6_add 4 = .ok (.iload_n 3, 1) := by decide +kernel
theorem dX6_add_5 : decode cX6_add 5 = .ok (.iadd, 1) := by decide +kernel
theorem dX6_add_6 : decode cX6_add 6 = .ok (.sipush 2000, 3) := by decide +kernel
theorem dX6_add_9 : decode cX6_add 9 = .ok (.if_icmp .le 5, 3) := by decide +kernel
theorem dX6_add_12 : decode cX6_add 12 = .ok (.iconst 0, 1) := by decide +kernel
theorem dX6_add_13 : decode cX6_add 13 = .ok (.ireturn, 1) := by decide +kernel
theorem dX6_add_14 : decode cX6_add 14 = .ok (.iconst 0, 1) := by decide +kernel
theorem dX6_add_15 : decode cX6_add 15 = .ok (.istore 4, 2) := by decide +kernel
theorem dX6_add_17 : decode cX6_add 17 = .ok (.iload 4, 2) := by decide +kernel
theorem dX6_add_19 : decode cX6_add 19 = .ok (.iload_n 3, 1) := by decide +kernel
theorem dX6_add_20 : decode cX6_add 20 = .ok (.if_icmp .ge 39, 3) := by decide +kernel
theorem dX6_add_23 : decode cX6_add 23 = .ok (.aload_n 0, 1) := by decide +kernel
theorem dX6_add_24 : decode cX6_add 24 = .ok (.getfield 14, 3) := by decide +kernel
theorem dX6_add_27 : decode cX6_add 27 = .ok (.aload_n 0, 1) := by decide +kernel
theorem dX6_add_28 : decode cX6_add 28 = .ok (.getfield 27, 3) := by decide +kernel
theorem dX6_add_31 : decode cX6_add 31 = .ok (.aload_n 0, 1) := by decide +kernel
theorem dX6_add_32 : decode cX6_add 32 = .ok (.getfield 24, 3) := by decide +kernel
theorem dX6_add_35 : decode cX6_add 35 = .ok (.iadd, 1) := by decide +kernel
theorem dX6_add_36 : decode cX6_add 36 = .ok (.iload 4, 2) := by decide +kernel
theorem dX6_add_38 : decode cX6_add 38 = .ok (.iadd, 1) := by decide +kernel
theorem dX6_add_39 : decode cX6_add 39 = .ok (.sipush 2000, 3) := by decide +kernel
theorem dX6_add_42 : decode cX6_add 42 = .ok (.irem, 1) := by decide +kernel
theorem dX6_add_43 : decode cX6_add 43 = .ok (.lload_n 1, 1) := by decide +kernel
theorem dX6_add_44 : decode cX6_add 44 = .ok (.iload 4, 2) := by decide +kernel
theorem dX6_add_46 : decode cX6_add 46 = .ok (.lushr, 1) := by decide +kernel
theorem dX6_add_47 : decode cX6_add 47 = .ok (.l2i, 1) := by decide +kernel
theorem dX6_add_48 : decode cX6_add 48 = .ok (.iconst 1, 1) := by decide +kernel
theorem dX6_add_49 : decode cX6_add 49 = .ok (.iand, 1) := by decide +kernel
theorem dX6_add_50 : decode cX6_add 50 = .ok (.invokevirtual 30, 3) := by decide +kernel
theorem dX6_add_53 : decode cX6_add 53 = .ok (.iinc 4 1, 3) := by decide +kernel
theorem dX6_add_56 : decode cX6_add 56 = .ok (.goto (-39), 3) := by decide +kernel
theorem dX6_add_59 : decode cX6_add 59 = .ok (.aload_n 0, 1) := by decide +kernel
theorem dX6_add_60 : decode cX6_add 60 = .ok (.dup, 1) := by decide +kernel
theorem dX6_add_61 : decode cX6_add 61 = .ok (.getfield 24, 3) := by decide +kernel
theorem dX6_add_64 : decode cX6_add 64 = .ok (.iload_n 3, 1) := by decide +kernel
theorem dX6_add_65 : decode cX6_add 65 = .ok (.iadd, 1) := by decide +kernel
theorem dX6_add_66 : decode cX6_add 66 = .ok (.putfield 24, 3) := by decide +kernel
theorem dX6_add_69 : decode cX6_add 69 = .ok (.iconst 1, 1) := by decide +kernel
theorem dX6_add_70 : decode cX6_add 70 = .ok (.ireturn, 1) := by decide +kernel
theorem dX6_draw_0 : decode cX6_draw 0 = .ok (.aload_n 0, 1) := by decide +kernel
theorem dX6_draw_1 : decode cX6_draw 1 = .ok (.getfield 24, 3) := by decide +kernel
theorem dX6_draw_4 : decode cX6_draw 4 = .ok (.ifCond .le 41, 3) := by decide +kernel
theorem dX6_draw_7 : decode cX6_draw 7 = .ok (.aload_n 0, 1) := by decide +kernel
theorem dX6_draw_8 : decode cX6_draw 8 = .ok (.getfield 14, 3) := by decide +kernel
theorem dX6_draw_11 : decode cX6_draw 11 = .ok (.aload_n 0, 1) := by decide +kernel
theorem dX6_draw_12 : decode cX6_draw 12 = .ok (.getfield 27, 3) := by decide +kernel
theorem dX6_draw_15 : decode cX6_draw 15 = .ok (.invokevirtual 34, 3) := by decide +kernel
theorem dX6_draw_18 : decode cX6_draw 18 = .ok (.istore_n 1, 1) := by decide +kernel
theorem dX6_draw_19 : decode cX6_draw 19 = .ok (.aload_n 0, 1) := by decide +kernel
theorem dX6_draw_20 : decode cX6_draw 20 = .ok (.aload_n 0, 1) := by decide +kernel
theorem dX6_draw_21 : decode cX6_draw 21 = .ok (.getfield 27, 3) := by decide +kernel
theorem dX6_draw_24 : decode cX6_draw 24 = .ok (.iconst 1, 1) := by decide +kernel
theorem dX6_draw_25 : decode cX6_draw 25 = .ok (.iadd, 1) := by decide +kernel
theorem dX6_draw_26 : decode cX6_draw 26 = .ok (.sipush 2000, 3) := by decide +kernel
theorem dX6_draw_29 : decode cX6_draw 29 = .ok (.irem, 1) := by decide +kernel
theorem dX6_draw_30 : decode cX6_draw 30 = .ok (.putfield 27, 3) := by decide +kernel
theorem dX6_draw_33 : decode cX6_draw 33 = .ok (.aload_n 0, 1) := by decide +kernel
theorem dX6_draw_34 : decode cX6_draw 34 = .ok (.dup, 1) := by decide +kernel
theorem dX6_draw_35 : decode cX6_draw 35 = .ok (.getfield 24, 3) := by decide +kernel
theorem dX6_draw_38 : decode cX6_draw 38 = .ok (.iconst 1, 1) := by decide +kernel
theorem dX6_draw_39 : decode cX6_draw 39 = .ok (.isub, 1) := by decide +kernel
theorem dX6_draw_40 : decode cX6_draw 40 = .ok (.putfield 24, 3) := by decide +kernel
theorem dX6_draw_43 : decode cX6_draw 43 = .ok (.iload_n 1, 1) := by decide +kernel
theorem dX6_draw_44 : decode cX6_draw 44 = .ok (.ireturn, 1) := by decide +kernel
theorem dX6_draw_45 : decode cX6_draw 45 = .ok (.aload_n 0, 1) := by decide +kernel
theorem dX6_draw_46 : decode cX6_draw 46 = .ok (.aload_n 0, 1) := by decide +kernel
theorem dX6_draw_47 : decode cX6_draw 47 = .ok (.getfield 20, 3) := by decide +kernel
theorem dX6_draw_50 : decode cX6_draw 50 = .ok (.ldc 38, 2) := by decide +kernel
theorem dX6_draw_52 : decode cX6_draw 52 = .ok (.imul, 1) := by decide +kernel
theorem dX6_draw_53 : decode cX6_draw 53 = .ok (.sipush 12345, 3) := by decide +kernel
theorem dX6_draw_56 : decode cX6_draw 56 = .ok (.iadd, 1) := by decide +kernel
theorem dX6_draw_57 : decode cX6_draw 57 = .ok (.putfield 20, 3) := by decide +kernel
theorem dX6_draw_60 : decode cX6_draw 60 = .ok (.aload_n 0, 1) := by decide +kernel
theorem dX6_draw_61 : decode cX6_draw 61 = .ok (.getfield 20, 3) := by decide +kernel
theorem dX6_draw_64 : decode cX6_draw 64 = .ok (.bipush 16, 2) := by decide +kernel
theorem dX6_draw_66 : decode cX6_draw 66 = .ok (.iushr, 1) := by decide +kernel
theorem dX6_draw_67 : decode cX6_draw 67 = .ok (.iconst 1, 1) := by decide +kernel
theorem dX6_draw_68 : decode cX6_draw 68 = .ok (.iand, 1) := by decide +kernel
theorem dX6_draw_69 : decode cX6_draw 69 = .ok (.ireturn, 1) := by decide +kernel
theorem dX7_init_0 : decode cX7_init 0 = .ok (.aload_n 0, 1) := by decide +kernel
theorem dX7_init_1 : decode cX7_init 1 = .ok (.invokespecial 1, 3) := by decide +kernel
theorem dX7_init_4 : decode cX7_init 4 = .ok (.aload_n 0, 1) := by decide +kernel
theorem dX7_init_5 : decode cX7_init 5 = .ok (.iload_n 1, 1) := by decide +kernel
theorem dX7_init_6 : decode cX7_init 6 = .ok (.bipush 64, 2) := by decide +kernel
theorem dX7_init_8 : decode cX7_init 8 = .ok (.idiv, 1) := by decide +kernel
theorem dX7_init_9 : decode cX7_init 9 = .ok (.iconst 1, 1) := by decide +kernel
theorem dX7_init_10 : decode cX7_init 10 = .ok (.iadd, 1) := by decide +kernel
theorem dX7_init_11 : decode cX7_init 11 = .ok (.newarray .long, 2) := by decide +kernel
theorem dX7_init_13 : decode cX7_init 13 = .ok (.putfield 7, 3) := by decide +kernel
theorem dX7_init_16 : decode cX7_init 16 = .ok (.return_, 1) := by decide +kernel
theorem dX7_set_0 : decode cX7_set 0 = .ok (.aload_n 0, 1) := by decide +kernel
theorem dX7_set_1 : decode cX7_set 1 = .ok (.getfield 7, 3) := by decide +kernel
theorem dX7_set_4 : decode cX7_set 4 = .ok (.iload_n 1, 1) := by decide +kernel
theorem dX7_set_5 : decode cX7_set 5 = .ok (.bipush 64, 2) := by decide +kernel
theorem dX7_set_7 : decode cX7_set 7 = .ok (.idiv, 1) := by decide +kernel
theorem dX7_set_8 : decode cX7_set 8 = .ok (.aload_n 0, 1) := by decide +kernel
theorem dX7_set_9 : decode cX7_set 9 = .ok (.getfield 7, 3) := by decide +kernel
theorem dX7_set_12 : decode cX7_set 12 = .ok (.iload_n 1, 1) := by decide +kernel
theorem dX7_set_13 : decode cX7_set 13 = .ok (.bipush 64, 2) := by decide +kernel
theorem dX7_set_15 : decode cX7_set 15 = .ok (.idiv, 1) := by decide +kernel
theorem dX7_set_16 : decode cX7_set 16 = .ok (.laload, 1) := by decide +kernel
theorem dX7_set_17 : decode cX7_set 17 = .ok (.lconst 1, 1) := by decide +kernel
theorem dX7_set_18 : decode cX7_set 18 = .ok (.iload_n 1, 1) := by decide +kernel
theorem dX7_set_19 : decode cX7_set 19 = .ok (.bipush 64, 2) := by decide +kernel
theorem dX7_set_21 : decode cX7_set 21 = .ok (.irem, 1) := by decide +kernel
theorem dX7_set_22 : decode cX7_set 22 = .ok (.lshl, 1) := by decide +kernel
theorem dX7_set_23 : decode cX7_set 23 = .ok (.ldc2_w 13, 3) := by decide +kernel
theorem dX7_set_26 : decode cX7_set 26 = .ok (.lxor, 1) := by decide +kernel
theorem dX7_set_27 : decode cX7_set 27 = .ok (.land, 1) := by decide +kernel
theorem dX7_set_28 : decode cX7_set 28 = .ok (.iload_n 2, 1) := by decide +kernel
theorem dX7_set_29 : decode cX7_set 29 = .ok (.i2l, 1) := by decide +kernel
theorem dX7_set_30 : decode cX7_set 30 = .ok (.iload_n 1, 1) := by decide +kernel
theorem dX7_set_31 : decode cX7_set 31 = .ok (.bipush 64, 2) := by decide +kernel
theorem dX7_set_33 : decode cX7_set 33 = .ok (.irem, 1) := by decide +kernel
theorem dX7_set_34 : decode cX7_set 34 = .ok (.lshl, 1) := by decide +kernel
theorem dX7_set_35 : decode cX7_set 35 = .ok (.lor, 1) := by decide +kernel
theorem dX7_set_36 : decode cX7_set 36 = .ok (.lastore, 1) := by decide +kernel
theorem dX7_set_37 : decode cX7_set 37 = .ok (.return_, 1) := by decide +kernel
theorem dX7_get_0 : decode cX7_get 0 = .ok (.aload_n 0, 1) := by decide +kernel
theorem dX7_get_1 : decode cX7_get 1 = .ok (.getfield 7, 3) := by decide +kernel
theorem dX7_get_4 : decode cX7_get 4 = .ok (.iload_n 1, 1) := by decide +kernel
theorem dX7_get_5 : decode cX7_get 5 = .ok (.bipush 64, 2) := by decide +kernel
theorem dX7_get_7 : decode cX7_get 7 = .ok (.idiv, 1) := by decide +kernel
theorem dX7_get_8 : decode cX7_get 8 = .ok (.laload, 1) := by decide +kernel
theorem dX7_get_9 : decode cX7_get 9 = .ok (.iload_n 1, 1) := by decide +kernel
theorem dX7_get_10 : decode cX7_get 10 = .ok (.bipush 64, 2) := by decide +kernel
theorem dX7_get_12 : decode cX7_get 12 = .ok (.irem, 1) := by decide +kernel
theorem dX7_get_13 : decode cX7_get 13 = .ok (.lushr, 1) := by decide +kernel
theorem dX7_get_14 : decode cX7_get 14 = .ok (.l2i, 1) := by decide +kernel
theorem dX7_get_15 : decode cX7_get 15 = .ok (.iconst 1, 1) := by decide +kernel
theorem dX7_get_16 : decode cX7_get 16 = .ok (.iand, 1) := by decide +kernel
theorem dX7_get_17 : decode cX7_get 17 = .ok (.ireturn, 1) := by decide +kernel
