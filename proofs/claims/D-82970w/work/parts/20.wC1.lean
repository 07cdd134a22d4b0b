set_option maxRecDepth 100000
theorem s_Bd_statement_b108 (P W : Int) (x1 : Int) (G : St) : SS (MBd_statement P W) some 108 [(0, aR 180), (1, aI x1)] [] G (Bd_statement_b108 P W x1 G) := by
  refine r_aload_n 109 0 dX11_statement_108 rfl rfl rfl ?_
  refine r_iload_n 110 1 dX11_statement_109 rfl rfl rfl ?_
  refine r_callvV 113 (Mc := MBd_input P W) (o := 180) (as := [aI x1]) (st := []) dX11_statement_110 rfl (c_Bd_input P W x1 G) lkX11_197 (cmBd_input P W) rfl rfl rfl (fun _ => dsC_180 P W _) nn180 rfl (Nat.le_of_ble_eq_true rfl) (Nat.le_of_ble_eq_true rfl) (fun _ => rfl) rfl (fun z1 G2 => ?_)
  refine r_goto 352 dX11_statement_113 rfl ?_
  exact r_return dX11_statement_352 rfl
theorem s_Bd_statement_b116 (P W : Int) (x1 : Int) (G : St) : SS (MBd_statement P W) some 116 [(0, aR 180), (1, aI x1)] [] G (Bd_statement_b116 P W x1 G) := by
  refine r_aload_n 117 0 dX11_statement_116 rfl rfl rfl ?_
  refine r_get 120 (aR 200) dX11_statement_117 fkX11_48 (fun _ => dsC_180 P W _) nn180 rfl rfl ?_
  refine r_aload_n 121 0 dX11_statement_120 rfl rfl rfl ?_
  refine r_get 124 (aI (G 180 28)) dX11_statement_121 fkX11_127 (fun _ => dsC_180 P W _) nn180 rfl rfl ?_
  refine r_aload_n 125 0 dX11_statement_124 rfl rfl rfl ?_
  refine r_get 128 (aI (G 180 7)) dX11_statement_125 fkX11_136 (fun _ => dsC_180 P W _) nn180 rfl rfl ?_
  refine r_iast 129 dX11_statement_128 (fun _ _ _ => dsC_200 P W _) (fun _ _ => nn200) rfl ?_
  refine ss_tk (fun G3 => ?_)
  refine r_aload_n 130 0 dX11_statement_129 rfl rfl rfl ?_
  refine r_dup 131 dX11_statement_130 rfl rfl ?_
  refine r_get 134 (aI (G3 180 28)) dX11_statement_131 fkX11_127 (fun _ => dsC_180 P W _) nn180 rfl rfl ?_
  refine r_iconst 135 1 dX11_statement_134 rfl rfl ?_
  refine r_iadd 136 dX11_statement_135 rfl ?_
  refine r_putI 139 dX11_statement_136 fkX11_127 (fun _ => dsC_180 P W _) nn180 rfl rfl ?_
  refine ss_tk (fun G4 => ?_)
  refine r_aload_n 140 0 dX11_statement_139 rfl rfl rfl ?_
  refine r_aload_n 141 0 dX11_statement_140 rfl rfl rfl ?_
  refine r_get 144 (aR 110) dX11_statement_141 fkX11_64 (fun _ => dsC_180 P W _) nn180 rfl rfl ?_
  refine r_get 147 (aR 114) dX11_statement_144 fkX11_200 (fun _ => dsC_110 P W _) nn110 rfl rfl ?_
  refine r_iload_n 148 1 dX11_statement_147 rfl rfl rfl ?_
  refine r_iald 149 dX11_statement_148 (fun _ _ _ => dsC_114 P W _) (fun _ _ => nn114) rfl ?_
  refine r_iconst 150 1 dX11_statement_149 rfl rfl ?_
  refine r_iadd 151 dX11_statement_150 rfl ?_
  refine r_putI 154 dX11_statement_151 fkX11_136 (fun _ => dsC_180 P W _) nn180 rfl rfl ?_
  refine ss_tk (fun G5 => ?_)
  refine r_goto 352 dX11_statement_154 rfl ?_
  exact r_return dX11_statement_352 rfl
theorem s_Bd_statement_b157 (P W : Int) (G : St) : SS (MBd_statement P W) some 157 [(0, aR 180)] [] G (Bd_statement_b157 P W G) := by
  refine r_aload_n 158 0 dX11_statement_157 rfl rfl rfl ?_
  refine r_callvV 161 (Mc := MBd_back P W) (o := 180) (as := []) (st := []) dX11_statement_158 rfl (c_Bd_back P W G) lkX11_203 (cmBd_back P W) rfl rfl rfl (fun _ => dsC_180 P W _) nn180 rfl (Nat.le_of_ble_eq_true rfl) (Nat.le_of_ble_eq_true rfl) (fun _ => rfl) rfl (fun z6 G7 => ?_)
  refine r_goto 352 dX11_statement_161 rfl ?_
  exact r_return dX11_statement_352 rfl
theorem s_Bd_statement_b164 (P W : Int) (x1 : Int) (G : St) : SS (MBd_statement P W) some 164 [(0, aR 180), (1, aI x1)] [] G (Bd_statement_b164 P W x1 G) := by
  refine r_aload_n 165 0 dX11_statement_164 rfl rfl rfl ?_
  refine r_aload_n 166 0 dX11_statement_165 rfl rfl rfl ?_
  refine r_get 169 (aR 110) dX11_statement_166 fkX11_64 (fun _ => dsC_180 P W _) nn180 rfl rfl ?_
  refine r_get 172 (aR 113) dX11_statement_169 fkX11_206 (fun _ => dsC_110 P W _) nn110 rfl rfl ?_
  refine r_iload_n 173 1 dX11_statement_172 rfl rfl rfl ?_
  refine r_iald 174 dX11_statement_173 (fun _ _ _ => dsC_113 P W _) (fun _ _ => nn113) rfl ?_
  refine r_putI 177 dX11_statement_174 fkX11_115 (fun _ => dsC_180 P W _) nn180 rfl rfl ?_
  refine ss_tk (fun G8 => ?_)
  refine r_aload_n 178 0 dX11_statement_177 rfl rfl rfl ?_
  refine r_callvV 181 (Mc := MBd_count P W) (o := 180) (as := []) (st := []) dX11_statement_178 rfl (c_Bd_count P W G8) lkX11_209 (cmBd_count P W) rfl rfl rfl (fun _ => dsC_180 P W _) nn180 rfl (Nat.le_of_ble_eq_true rfl) (Nat.le_of_ble_eq_true rfl) (fun _ => rfl) rfl (fun z9 G10 => ?_)
  refine r_goto 352 dX11_statement_181 rfl ?_
  exact r_return dX11_statement_352 rfl
theorem s_Bd_statement_b184 (P W : Int) (x1 : Int) (G : St) : SS (MBd_statement P W) some 184 [(0, aR 180), (1, aI x1)] [] G (Bd_statement_b184 P W x1 G) := by
  refine r_aload_n 185 0 dX11_statement_184 rfl rfl rfl ?_
  refine r_aload_n 186 0 dX11_statement_185 rfl rfl rfl ?_
  refine r_get 189 (aR 110) dX11_statement_186 fkX11_64 (fun _ => dsC_180 P W _) nn180 rfl rfl ?_
  refine r_get 192 (aR 114) dX11_statement_189 fkX11_200 (fun _ => dsC_110 P W _) nn110 rfl rfl ?_
  refine r_iload_n 193 1 dX11_statement_192 rfl rfl rfl ?_
  refine r_iald 194 dX11_statement_193 (fun _ _ _ => dsC_114 P W _) (fun _ _ => nn114) rfl ?_
  refine r_callvV 197 (Mc := MBd_output P W) (o := 180) (as := [aI (G 114 x1)]) (st := []) dX11_statement_194 rfl (c_Bd_output P W (G 114 x1) G) lkX11_212 (cmBd_output P W) rfl rfl rfl (fun _ => dsC_180 P W _) nn180 rfl (Nat.le_of_ble_eq_true rfl) (Nat.le_of_ble_eq_true rfl) (fun _ => rfl) rfl (fun z11 G12 => ?_)
  refine r_goto 352 dX11_statement_197 rfl ?_
  exact r_return dX11_statement_352 rfl
theorem s_Bd_statement_b200 (P W : Int) (x1 : Int) (G : St) : SS (MBd_statement P W) some 200 [(0, aR 180), (1, aI x1)] [] G (Bd_statement_b200 P W x1 G) := by
  refine r_aload_n 201 0 dX11_statement_200 rfl rfl rfl ?_
  refine r_iload_n 202 1 dX11_statement_201 rfl rfl rfl ?_
  refine r_callvV 205 (Mc := MBd_variable P W) (o := 180) (as := [aI x1]) (st := []) dX11_statement_202 rfl (c_Bd_variable P W x1 G) lkX11_215 (cmBd_variable P W) rfl rfl rfl (fun _ => dsC_180 P W _) nn180 rfl (Nat.le_of_ble_eq_true rfl) (Nat.le_of_ble_eq_true rfl) (fun _ => rfl) rfl (fun z13 G14 => ?_)
  refine r_goto 352 dX11_statement_205 rfl ?_
  exact r_return dX11_statement_352 rfl
theorem s_Bd_statement_b208 (P W : Int) (x1 : Int) (G : St) : SS (MBd_statement P W) some 208 [(0, aR 180), (1, aI x1)] [] G (Bd_statement_b208 P W x1 G) := by
  refine r_aload_n 209 0 dX11_statement_208 rfl rfl rfl ?_
  refine r_get 212 (aR 110) dX11_statement_209 fkX11_64 (fun _ => dsC_180 P W _) nn180 rfl rfl ?_
  refine r_get 215 (aR 114) dX11_statement_212 fkX11_200 (fun _ => dsC_110 P W _) nn110 rfl rfl ?_
  refine r_iload_n 216 1 dX11_statement_215 rfl rfl rfl ?_
  refine r_iald 217 dX11_statement_216 (fun _ _ _ => dsC_114 P W _) (fun _ _ => nn114) rfl ?_
  refine r_iconst 218 2 dX11_statement_217 rfl rfl ?_
  refine r_iand 219 dX11_statement_218 rfl ?_
  refine r_if_eq 352 222 dX11_statement_219 rfl rfl ?_ ?_
  · exact r_return dX11_statement_352 rfl
  · refine r_aload_n 223 0 dX11_statement_222 rfl rfl rfl ?_
    refine r_aload_n 224 0 dX11_statement_223 rfl rfl rfl ?_
    refine r_aload_n 225 0 dX11_statement_224 rfl rfl rfl ?_
    refine r_iconst 226 1 dX11_statement_225 rfl rfl ?_
    refine r_callvI 229 (Mc := MBd_place P W) (o := 180) (as := [aI 1]) (st := [aR 180, aR 180]) dX11_statement_226 rfl (c_Bd_place P W 1 G) lkX11_218 (cmBd_place P W) rfl rfl rfl (fun _ => dsC_180 P W _) nn180 rfl (Nat.le_of_ble_eq_true rfl) (Nat.le_of_ble_eq_true rfl) (fun _ => rfl) rfl (fun z15 G16 => ?_)
    refine r_callvL 232 (Mc := MBd_valueOf P W) (o := 180) (as := [aI z15]) (st := [aR 180]) dX11_statement_229 rfl (c_Bd_valueOf P W z15 G16) lkX11_222 (cmBd_valueOf P W) rfl rfl rfl (fun _ => dsC_180 P W _) nn180 rfl (Nat.le_of_ble_eq_true rfl) (Nat.le_of_ble_eq_true rfl) (fun _ => rfl) rfl (fun z17 G18 => ?_)
    refine r_aload_n 233 0 dX11_statement_232 rfl rfl rfl ?_
    refine r_get 236 (aR 110) dX11_statement_233 fkX11_64 (fun _ => dsC_180 P W _) nn180 rfl rfl ?_
    refine r_get 239 (aR 114) dX11_statement_236 fkX11_200 (fun _ => dsC_110 P W _) nn110 rfl rfl ?_
    refine r_iload_n 240 1 dX11_statement_239 rfl rfl rfl ?_
    refine r_iald 241 dX11_statement_240 (fun _ _ _ => dsC_114 P W _) (fun _ _ => nn114) rfl ?_
    refine r_sipush 244 512 dX11_statement_241 rfl rfl ?_
    refine r_idiv 245 dX11_statement_244 rfl ?_
    refine r_aload_n 246 0 dX11_statement_245 rfl rfl rfl ?_
    refine r_get 249 (aR 110) dX11_statement_246 fkX11_64 (fun _ => dsC_180 P W _) nn180 rfl rfl ?_
    refine r_get 252 (aR 113) dX11_statement_249 fkX11_206 (fun _ => dsC_110 P W _) nn110 rfl rfl ?_
    refine r_iload_n 253 1 dX11_statement_252 rfl rfl rfl ?_
    refine r_iald 254 dX11_statement_253 (fun _ _ _ => dsC_113 P W _) (fun _ _ => nn113) rfl ?_
    refine r_callvV 257 (Mc := MBd_needBelow P W) (o := 180) (as := [aL z17, aI ((G18 114 x1) / 512), aI (G18 113 x1)]) (st := []) dX11_statement_254 rfl (c_Bd_needBelow P W z17 ((G18 114 x1) / 512) (G18 113 x1) G18) lkX11_226 (cmBd_needBelow P W) rfl rfl rfl (fun _ => dsC_180 P W _) nn180 rfl (Nat.le_of_ble_eq_true rfl) (Nat.le_of_ble_eq_true rfl) (fun _ => rfl) rfl (fun z19 G20 => ?_)
    refine r_goto 352 dX11_statement_257 rfl ?_
    exact r_return dX11_statement_352 rfl
theorem s_Bd_statement_b260 (P W : Int) (x1 : Int) (G : St) : SS (MBd_statement P W) some 260 [(0, aR 180), (1, aI x1)] [] G (Bd_statement_b260 P W x1 G) := by
  refine r_aload_n 261 0 dX11_statement_260 rfl rfl rfl ?_
  refine r_iload_n 262 1 dX11_statement_261 rfl rfl rfl ?_
  refine r_callvV 265 (Mc := MBd_assign P W) (o := 180) (as := [aI x1]) (st := []) dX11_statement_262 rfl (c_Bd_assign P W x1 G) lkX11_230 (cmBd_assign P W) rfl rfl rfl (fun _ => dsC_180 P W _) nn180 rfl (Nat.le_of_ble_eq_true rfl) (Nat.le_of_ble_eq_true rfl) (fun _ => rfl) rfl (fun z21 G22 => ?_)
  refine r_goto 352 dX11_statement_265 rfl ?_
  exact r_return dX11_statement_352 rfl
theorem s_Bd_statement_b268 (P W : Int) (x1 : Int) (G : St) : SS (MBd_statement P W) some 268 [(0, aR 180), (1, aI x1)] [] G (Bd_statement_b268 P W x1 G) := by
  refine r_aload_n 269 0 dX11_statement_268 rfl rfl rfl ?_
  refine r_iload_n 270 1 dX11_statement_269 rfl rfl rfl ?_
  refine r_callvV 273 (Mc := MBd_open P W) (o := 180) (as := [aI x1]) (st := []) dX11_statement_270 rfl (c_Bd_open P W x1 G) lkX11_233 (cmBd_open P W) rfl rfl rfl (fun _ => dsC_180 P W _) nn180 rfl (Nat.le_of_ble_eq_true rfl) (Nat.le_of_ble_eq_true rfl) (fun _ => rfl) rfl (fun z23 G24 => ?_)
  refine r_goto 352 dX11_statement_273 rfl ?_
  exact r_return dX11_statement_352 rfl
theorem s_Bd_statement_b276 (P W : Int) (G : St) : SS (MBd_statement P W) some 276 [(0, aR 180)] [] G (Bd_statement_b276 P W G) := by
  refine r_aload_n 277 0 dX11_statement_276 rfl rfl rfl ?_
  refine r_callvV 280 (Mc := MBd_turnOver P W) (o := 180) (as := []) (st := []) dX11_statement_277 rfl (c_Bd_turnOver P W G) lkX11_236 (cmBd_turnOver P W) rfl rfl rfl (fun _ => dsC_180 P W _) nn180 rfl (Nat.le_of_ble_eq_true rfl) (Nat.le_of_ble_eq_true rfl) (fun _ => rfl) rfl (fun z25 G26 => ?_)
  refine r_goto 352 dX11_statement_280 rfl ?_
  exact r_return dX11_statement_352 rfl
theorem s_Bd_statement_b283 (P W : Int) (G : St) : SS (MBd_statement P W) some 283 [(0, aR 180)] [] G (Bd_statement_b283 P W G) := by
  refine r_aload_n 284 0 dX11_statement_283 rfl rfl rfl ?_
  refine r_callvV 287 (Mc := MBd_merge P W) (o := 180) (as := []) (st := []) dX11_statement_284 rfl (c_Bd_merge P W G) lkX11_239 (cmBd_merge P W) rfl rfl rfl (fun _ => dsC_180 P W _) nn180 rfl (Nat.le_of_ble_eq_true rfl) (Nat.le_of_ble_eq_true rfl) (fun _ => rfl) rfl (fun z27 G28 => ?_)
  refine r_goto 352 dX11_statement_287 rfl ?_
  exact r_return dX11_statement_352 rfl
theorem s_Bd_statement_b290 (P W : Int) (x1 : Int) (G : St) : SS (MBd_statement P W) some 290 [(0, aR 180), (1, aI x1)] [] G (Bd_statement_b290 P W x1 G) := by
  refine r_aload_n 291 0 dX11_statement_290 rfl rfl rfl ?_
  refine r_iload_n 292 1 dX11_statement_291 rfl rfl rfl ?_
  refine r_callvV 295 (Mc := MBd_loop P W) (o := 180) (as := [aI x1]) (st := []) dX11_statement_292 rfl (c_Bd_loop P W x1 G) lkX11_242 (cmBd_loop P W) rfl rfl rfl (fun _ => dsC_180 P W _) nn180 rfl (Nat.le_of_ble_eq_true rfl) (Nat.le_of_ble_eq_true rfl) (fun _ => rfl) rfl (fun z29 G30 => ?_)
  refine r_goto 352 dX11_statement_295 rfl ?_
  exact r_return dX11_statement_352 rfl
theorem s_Bd_statement_b298 (P W : Int) (x1 : Int) (G : St) : SS (MBd_statement P W) some 298 [(0, aR 180), (1, aI x1)] [] G (Bd_statement_b298 P W x1 G) := by
  refine r_aload_n 299 0 dX11_statement_298 rfl rfl rfl ?_
  refine r_get 302 (aR 110) dX11_statement_299 fkX11_64 (fun _ => dsC_180 P W _) nn180 rfl rfl ?_
  refine r_get 305 (aR 112) dX11_statement_302 fkX11_245 (fun _ => dsC_110 P W _) nn110 rfl rfl ?_
  refine r_iload_n 306 1 dX11_statement_305 rfl rfl rfl ?_
  refine r_iald 307 dX11_statement_306 (fun _ _ _ => dsC_112 P W _) (fun _ _ => nn112) rfl ?_
  refine r_istore_n 308 [(2, aI (G 112 x1)), (0, aR 180), (1, aI x1)] dX11_statement_307 rfl rfl rfl rfl ?_
  refine r_aload_n 309 1 dX11_statement_308 rfl rfl rfl ?_
  refine r_get 312 (aR 198) dX11_statement_309 fkX11_41 (fun _ => dsC_180 P W _) nn180 rfl rfl ?_
  refine r_iload_n 313 0 dX11_statement_312 rfl rfl rfl ?_
  refine r_lald 314 dX11_statement_313 (fun _ _ _ => dsC_198 P W _) (fun _ _ => nn198) rfl ?_
  refine r_aload_n 315 1 dX11_statement_314 rfl rfl rfl ?_
  refine r_get 318 (aR 199) dX11_statement_315 fkX11_45 (fun _ => dsC_180 P W _) nn180 rfl rfl ?_
  refine r_iload_n 319 0 dX11_statement_318 rfl rfl rfl ?_
  refine r_lald 320 dX11_statement_319 (fun _ _ _ => dsC_199 P W _) (fun _ _ => nn199) rfl ?_
  refine r_lif_ge 321 352 324 dX11_statement_320 rfl dX11_statement_321 rfl rfl ?_ ?_
  · exact r_return dX11_statement_352 rfl
  · refine r_aload_n 325 1 dX11_statement_324 rfl rfl rfl ?_
    refine r_get 328 (aR 198) dX11_statement_325 fkX11_41 (fun _ => dsC_180 P W _) nn180 rfl rfl ?_
    refine r_iload_n 329 0 dX11_statement_328 rfl rfl rfl ?_
    refine r_dup2 330 dX11_statement_329 rfl rfl rfl ?_
    refine r_lald 331 dX11_statement_330 (fun _ _ _ => dsC_198 P W _) (fun _ _ => nn198) rfl ?_
    refine r_lconst 332 1 dX11_statement_331 rfl rfl rfl ?_
    refine r_ladd 333 dX11_statement_332 rfl ?_
    refine r_last 334 dX11_statement_333 (fun _ _ _ => dsC_198 P W _) (fun _ _ => nn198) rfl ?_
    refine ss_tk (fun G31 => ?_)
    refine r_aload_n 335 1 dX11_statement_334 rfl rfl rfl ?_
    refine r_aload_n 336 1 dX11_statement_335 rfl rfl rfl ?_
    refine r_get 339 (aR 110) dX11_statement_336 fkX11_64 (fun _ => dsC_180 P W _) nn180 rfl rfl ?_
    refine r_get 342 (aR 114) dX11_statement_339 fkX11_200 (fun _ => dsC_110 P W _) nn110 rfl rfl ?_
    refine r_iload_n 343 2 dX11_statement_342 rfl rfl rfl ?_
    refine r_iald 344 dX11_statement_343 (fun _ _ _ => dsC_114 P W _) (fun _ _ => nn114) rfl ?_
    refine r_iconst 345 1 dX11_statement_344 rfl rfl ?_
    refine r_iadd 346 dX11_statement_345 rfl ?_
    refine r_putI 349 dX11_statement_346 fkX11_136 (fun _ => dsC_180 P W _) nn180 rfl rfl ?_
    refine ss_tk (fun G32 => ?_)
    refine r_goto 352 dX11_statement_349 rfl ?_
    exact r_return dX11_statement_352 rfl
theorem s_Bd_statement (P W : Int) (x1 : Int) (G : St) : SS (MBd_statement P W) some 0 [(0, aR 180), (1, aI x1)] [] G (Bd_statement P W x1 G) := by
  refine r_aload_n 1 0 dX11_statement_0 rfl rfl rfl ?_
  refine r_get 4 (aR 110) dX11_statement_1 fkX11_64 (fun _ => dsC_180 P W _) nn180 rfl rfl ?_
  refine r_get 7 (aR 111) dX11_statement_4 fkX11_172 (fun _ => dsC_110 P W _) nn110 rfl rfl ?_
  refine r_iload_n 8 1 dX11_statement_7 rfl rfl rfl ?_
  refine r_aald5 9 dX11_statement_8 (fun _ _ _ => dsC_111 P W _) (fun _ _ => nn111) rfl ?_
  refine r_ord 12 dX11_statement_9 q1436 rfl (Nat.le_of_ble_eq_true rfl) (Nat.le_of_ble_eq_true rfl) rfl ?_
  refine r_tsw 352 [(108, Bd_statement_b108 P W x1 G), (116, Bd_statement_b116 P W x1 G), (352, some (0, G)), (157, Bd_statement_b157 P W G), (164, Bd_statement_b164 P W x1 G), (184, Bd_statement_b184 P W x1 G), (164, Bd_statement_b164 P W x1 G), (352, some (0, G)), (200, Bd_statement_b200 P W x1 G), (352, some (0, G)), (352, some (0, G)), (208, Bd_statement_b208 P W x1 G), (260, Bd_statement_b260 P W x1 G), (268, Bd_statement_b268 P W x1 G), (276, Bd_statement_b276 P W G), (283, Bd_statement_b283 P W G), (352, some (0, G)), (352, some (0, G)), (290, Bd_statement_b290 P W x1 G), (298, Bd_statement_b298 P W x1 G)] dX11_statement_12 rfl rfl rfl ⟨?_, ?_, ?_, ?_, ?_, ?_, ?_, ?_, ?_, ?_, ?_, ?_, ?_, ?_, ?_, ?_, ?_, ?_, ?_, ?_, trivial⟩ ?_
  · exact s_Bd_statement_b108 P W x1 G
  · exact s_Bd_statement_b116 P W x1 G
  · exact r_return dX11_statement_352 rfl
  · refine r_to [0] [(0, aR 180)] rfl ?_
    exact s_Bd_statement_b157 P W G
  · exact s_Bd_statement_b164 P W x1 G
  · exact s_Bd_statement_b184 P W x1 G
  · exact s_Bd_statement_b164 P W x1 G
  · exact r_return dX11_statement_352 rfl
  · exact s_Bd_statement_b200 P W x1 G
  · exact r_return dX11_statement_352 rfl
  · exact r_return dX11_statement_352 rfl
  · exact s_Bd_statement_b208 P W x1 G
  · exact s_Bd_statement_b260 P W x1 G
  · exact s_Bd_statement_b268 P W x1 G
  · refine r_to [0] [(0, aR 180)] rfl ?_
    exact s_Bd_statement_b276 P W G
  · refine r_to [0] [(0, aR 180)] rfl ?_
    exact s_Bd_statement_b283 P W G
  · exact r_return dX11_statement_352 rfl
  · exact r_return dX11_statement_352 rfl
  · exact s_Bd_statement_b290 P W x1 G
  · exact s_Bd_statement_b298 P W x1 G
  · exact r_return dX11_statement_352 rfl
theorem c_Bd_statement (P W : Int) (x1 : Int) (G : St) : MG (MBd_statement P W) [aR 180, aI x1] G (Bd_statement P W x1 G) := MG.of plX11 (Nat.le_of_ble_eq_true rfl) (s_Bd_statement P W x1 G)
theorem s_Bd_step (P W : Int) (x1 : Int) (G : St) : SS (MBd_step P W) some 0 [(0, aR 180), (1, aI x1)] [] G (Bd_step P W x1 G) := by
  refine r_aload_n 1 0 dX11_step_0 rfl rfl rfl ?_
  refine r_get 4 (aR 110) dX11_step_1 fkX11_64 (fun _ => dsC_180 P W _) nn180 rfl rfl ?_
  refine r_get 7 (aR 111) dX11_step_4 fkX11_172 (fun _ => dsC_110 P W _) nn110 rfl rfl ?_
  refine r_iload_n 8 1 dX11_step_7 rfl rfl rfl ?_
  refine r_aald5 9 dX11_step_8 (fun _ _ _ => dsC_111 P W _) (fun _ _ => nn111) rfl ?_
  refine r_astore_n 10 [(2, aR (G 111 x1)), (0, aR 180), (1, aI x1)] dX11_step_9 rfl rfl rfl rfl ?_
  refine r_aload_n 11 0 dX11_step_10 rfl rfl rfl ?_
  refine r_ord 14 dX11_step_11 q1436 rfl (Nat.le_of_ble_eq_true rfl) (Nat.le_of_ble_eq_true rfl) rfl ?_
  refine r_gets 17 38 dX11_step_14 q1437 rfl rfl ?_
  refine r_ord 20 dX11_step_17 q1436 rfl (Nat.le_of_ble_eq_true rfl) (Nat.le_of_ble_eq_true rfl) rfl ?_
  refine r_icmp_lt 31 23 dX11_step_20 rfl rfl ?_ ?_
  · refine r_aload_n 32 0 dX11_step_31 rfl rfl rfl ?_
    refine r_ord 35 dX11_step_32 q1436 rfl (Nat.le_of_ble_eq_true rfl) (Nat.le_of_ble_eq_true rfl) rfl ?_
    refine r_gets 38 22 dX11_step_35 q1534 rfl rfl ?_
    refine r_ord 41 dX11_step_38 q1436 rfl (Nat.le_of_ble_eq_true rfl) (Nat.le_of_ble_eq_true rfl) rfl ?_
    refine r_icmp_lt 52 44 dX11_step_41 rfl rfl ?_ ?_
    · refine r_aload_n 53 1 dX11_step_52 rfl rfl rfl ?_
      refine r_iload_n 54 2 dX11_step_53 rfl rfl rfl ?_
      refine r_callvV 57 (Mc := MBd_statement P W) (o := 180) (as := [aI x1]) (st := []) dX11_step_54 rfl (c_Bd_statement P W x1 G) lkX11_195 (cmBd_statement P W) rfl rfl rfl (fun _ => dsC_180 P W _) nn180 rfl (Nat.le_of_ble_eq_true rfl) (Nat.le_of_ble_eq_true rfl) (fun _ => rfl) rfl (fun z1 G2 => ?_)
      exact r_return dX11_step_57 rfl
    · refine r_aload_n 45 1 dX11_step_44 rfl rfl rfl ?_
      refine r_iload_n 46 2 dX11_step_45 rfl rfl rfl ?_
      refine r_callvV 49 (Mc := MBd_factor P W) (o := 180) (as := [aI x1]) (st := []) dX11_step_46 rfl (c_Bd_factor P W x1 G) lkX11_192 (cmBd_factor P W) rfl rfl rfl (fun _ => dsC_180 P W _) nn180 rfl (Nat.le_of_ble_eq_true rfl) (Nat.le_of_ble_eq_true rfl) (fun _ => rfl) rfl (fun z3 G4 => ?_)
      refine r_goto 57 dX11_step_49 rfl ?_
      exact r_return dX11_step_57 rfl
  · refine r_aload_n 24 1 dX11_step_23 rfl rfl rfl ?_
    refine r_iload_n 25 2 dX11_step_24 rfl rfl rfl ?_
    refine r_callvV 28 (Mc := MBd_operator P W) (o := 180) (as := [aI x1]) (st := []) dX11_step_25 rfl (c_Bd_operator P W x1 G) lkX11_186 (cmBd_operator P W) rfl rfl rfl (fun _ => dsC_180 P W _) nn180 rfl (Nat.le_of_ble_eq_true rfl) (Nat.le_of_ble_eq_true rfl) (fun _ => rfl) rfl (fun z5 G6 => ?_)
    refine r_goto 57 dX11_step_28 rfl ?_
    exact r_return dX11_step_57 rfl
theorem c_Bd_step (P W : Int) (x1 : Int) (G : St) : MG (MBd_step P W) [aR 180, aI x1] G (Bd_step P W x1 G) := MG.of plX11 (Nat.le_of_ble_eq_true rfl) (s_Bd_step P W x1 G)
theorem s_Ci_clear (P W : Int) (x1 : Int) (G : St) : SS (MCi_clear P W) some 0 [(0, aR 140), (1, aI x1)] [] G (Ci_clear x1 G) := by
  refine r_aload_n 1 0 dX5_clear_0 rfl rfl rfl ?_
  refine r_iconst 2 0 dX5_clear_1 rfl rfl ?_
  refine r_putI 5 dX5_clear_2 fkX5_27 (fun _ => dsC_140 P W _) nn140 rfl rfl ?_
  refine ss_tk (fun G1 => ?_)
  refine r_aload_n 6 0 dX5_clear_5 rfl rfl rfl ?_
  refine r_iconst 7 0 dX5_clear_6 rfl rfl ?_
  refine r_putI 10 dX5_clear_7 fkX5_31 (fun _ => dsC_140 P W _) nn140 rfl rfl ?_
  refine ss_tk (fun G2 => ?_)
  refine r_aload_n 11 0 dX5_clear_10 rfl rfl rfl ?_
  refine r_iconst 12 0 dX5_clear_11 rfl rfl ?_
  refine r_putI 15 dX5_clear_12 fkX5_34 (fun _ => dsC_140 P W _) nn140 rfl rfl ?_
  refine ss_tk (fun G3 => ?_)
  refine r_aload_n 16 0 dX5_clear_15 rfl rfl rfl ?_
  refine r_iload_n 17 1 dX5_clear_16 rfl rfl rfl ?_
  refine r_putI 20 dX5_clear_17 fkX5_37 (fun _ => dsC_140 P W _) nn140 rfl rfl ?_
  refine ss_tk (fun G4 => ?_)
  refine r_aload_n 21 0 dX5_clear_20 rfl rfl rfl ?_
  refine r_iconst 22 0 dX5_clear_21 rfl rfl ?_
  refine r_putZ 25 dX5_clear_22 fkX5_40 (fun _ => dsC_140 P W _) nn140 rfl rfl ?_
  refine ss_tk (fun G5 => ?_)
  exact r_return dX5_clear_25 rfl
theorem c_Ci_clear (P W : Int) (x1 : Int) (G : St) : MG (MCi_clear P W) [aR 140, aI x1] G (Ci_clear x1 G) := MG.of plX5 (Nat.le_of_ble_eq_true rfl) (s_Ci_clear P W x1 G)
theorem s_Bd_build_s58 (P W : Int) (X58 : St → Option (Int × St)) (hX58 : ∀ s, So (MBd_build P W) 58 [(0, aR 180)] [] s (X58 s)) (G : St) : SS (MBd_build P W) (lk X58 some) 58 [(0, aR 180)] [] G (Bd_build_s58 P W G) := by
  refine r_aload_n 59 0 dX11_build_58 rfl rfl rfl ?_
  refine r_get 62 (aI (G 180 7)) dX11_build_59 fkX11_136 (fun _ => dsC_180 P W _) nn180 rfl rfl ?_
  refine r_aload_n 63 0 dX11_build_62 rfl rfl rfl ?_
  refine r_get 66 (aR 110) dX11_build_63 fkX11_64 (fun _ => dsC_180 P W _) nn180 rfl rfl ?_
  refine r_get 69 (aI (G 110 4)) dX11_build_66 fkX11_139 (fun _ => dsC_110 P W _) nn110 rfl rfl ?_
  refine r_icmp_ge 128 72 dX11_build_69 rfl rfl ?_ ?_
  · refine SS.ex ?_
    exact r_return dX11_build_128 rfl
  · refine r_aload_n 73 0 dX11_build_72 rfl rfl rfl ?_
    refine r_get 76 (aR 130) dX11_build_73 fkX11_68 (fun _ => dsC_180 P W _) nn180 rfl rfl ?_
    refine r_callvI 79 (Mc := MFt_is P W) (o := 130) (as := []) (st := []) dX11_build_76 rfl (c_Ft_is P W G) lkX11_144 (cmFt_is P W) rfl rfl rfl (fun _ => dsC_130 P W _) nn130 rfl (Nat.le_of_ble_eq_true rfl) (Nat.le_of_ble_eq_true rfl) (fun _ => rfl) rfl (fun z13 G14 => ?_)
    refine r_if_ne 128 82 dX11_build_79 rfl rfl ?_ ?_
    · refine SS.ex ?_
      exact r_return dX11_build_128 rfl
    · refine r_aload_n 83 0 dX11_build_82 rfl rfl rfl ?_
      refine r_get 86 (aI (G14 180 7)) dX11_build_83 fkX11_136 (fun _ => dsC_180 P W _) nn180 rfl rfl ?_
      refine r_istore_n 87 [(2, aI (G14 180 7)), (0, aR 180)] dX11_build_86 rfl rfl rfl rfl ?_
      refine r_aload_n 88 1 dX11_build_87 rfl rfl rfl ?_
      refine r_dup 89 dX11_build_88 rfl rfl ?_
      refine r_get 92 (aI (G14 180 7)) dX11_build_89 fkX11_136 (fun _ => dsC_180 P W _) nn180 rfl rfl ?_
      refine r_iconst 93 1 dX11_build_92 rfl rfl ?_
      refine r_iadd 94 dX11_build_93 rfl ?_
      refine r_putI 97 dX11_build_94 fkX11_136 (fun _ => dsC_180 P W _) nn180 rfl rfl ?_
      refine ss_tk (fun G15 => ?_)
      refine r_aload_n 98 1 dX11_build_97 rfl rfl rfl ?_
      refine r_iload_n 99 0 dX11_build_98 rfl rfl rfl ?_
      refine r_callvV 102 (Mc := MBd_step P W) (o := 180) (as := [aI (G14 180 7)]) (st := []) dX11_build_99 rfl (c_Bd_step P W (G14 180 7) G15) lkX11_150 (cmBd_step P W) rfl rfl rfl (fun _ => dsC_180 P W _) nn180 rfl (Nat.le_of_ble_eq_true rfl) (Nat.le_of_ble_eq_true rfl) (fun _ => rfl) rfl (fun z16 G17 => ?_)
      refine r_aload_n 103 1 dX11_build_102 rfl rfl rfl ?_
      refine r_get 106 (aR 140) dX11_build_103 fkX11_72 (fun _ => dsC_180 P W _) nn180 rfl rfl ?_
      refine r_get 109 (aI (G17 140 8)) dX11_build_106 fkX11_153 (fun _ => dsC_140 P W _) nn140 rfl rfl ?_
      refine r_if_eq 125 112 dX11_build_109 rfl rfl ?_ ?_
      · refine r_goto 58 dX11_build_125 rfl ?_
        refine r_to [1] [(0, aR 180)] rfl ?_
        exact SS.back (hX58 (G17))
      · refine r_aload_n 113 1 dX11_build_112 rfl rfl rfl ?_
        refine r_get 116 (aR 130) dX11_build_113 fkX11_68 (fun _ => dsC_180 P W _) nn180 rfl rfl ?_
        refine r_bipush 118 8 dX11_build_116 rfl rfl ?_
        refine r_aload_n 119 1 dX11_build_118 rfl rfl rfl ?_
        refine r_get 122 (aI (G17 180 9)) dX11_build_119 fkX11_115 (fun _ => dsC_180 P W _) nn180 rfl rfl ?_
        refine r_callvV 125 (Mc := MFt_set P W) (o := 130) (as := [aI 8, aI (G17 180 9)]) (st := []) dX11_build_122 rfl (c_Ft_set P W 8 (G17 180 9) G17) lkX11_157 (cmFt_set P W) rfl rfl rfl (fun _ => dsC_130 P W _) nn130 rfl (Nat.le_of_ble_eq_true rfl) (Nat.le_of_ble_eq_true rfl) (fun _ => rfl) rfl (fun z18 G19 => ?_)
        refine r_goto 58 dX11_build_125 rfl ?_
        refine r_to [1] [(0, aR 180)] rfl ?_
        exact SS.back (hX58 (G19))
theorem sl_Bd_build_58 (P W : Int) (G : St) : SS (MBd_build P W) some 58 [(0, aR 180)] [] G (Bd_build_l58 P W G) := by
  exact SS.loop (σ := St) (fun s => [(0, aR 180)]) (fun s => s) (fun s => Bd_build_s58 P W s) (fun X58 hX58 s => s_Bd_build_s58 P W   X58 hX58 s) (G)
theorem s_Bd_build (P W : Int) (x1 : Int) (G : St) : SS (MBd_build P W) some 0 [(0, aR 180), (1, aI x1)] [] G (Bd_build P W x1 G) := by
  refine r_aload_n 1 0 dX11_build_0 rfl rfl rfl ?_
  refine r_get 4 (aR 140) dX11_build_1 fkX11_72 (fun _ => dsC_180 P W _) nn180 rfl rfl ?_
  refine r_iload_n 5 1 dX11_build_4 rfl rfl rfl ?_
  refine r_callvV 8 (Mc := MCi_clear P W) (o := 140) (as := [aI x1]) (st := []) dX11_build_5 rfl (c_Ci_clear P W x1 G) lkX11_105 (cmCi_clear P W) rfl rfl rfl (fun _ => dsC_140 P W _) nn140 rfl (Nat.le_of_ble_eq_true rfl) (Nat.le_of_ble_eq_true rfl) (fun _ => rfl) rfl (fun z1 G2 => ?_)
  refine r_aload_n 9 0 dX11_build_8 rfl rfl rfl ?_
  refine r_iconst 10 0 dX11_build_9 rfl rfl ?_
  refine r_putI 13 dX11_build_10 fkX11_109 (fun _ => dsC_180 P W _) nn180 rfl rfl ?_
  refine ss_tk (fun G3 => ?_)
  refine r_aload_n 14 0 dX11_build_13 rfl rfl rfl ?_
  refine r_iconst 15 0 dX11_build_14 rfl rfl ?_
  refine r_putI 18 dX11_build_15 fkX11_112 (fun _ => dsC_180 P W _) nn180 rfl rfl ?_
  refine ss_tk (fun G4 => ?_)
  refine r_aload_n 19 0 dX11_build_18 rfl rfl rfl ?_
  refine r_iconst 20 0 dX11_build_19 rfl rfl ?_
  refine r_putI 23 dX11_build_20 fkX11_115 (fun _ => dsC_180 P W _) nn180 rfl rfl ?_
  refine ss_tk (fun G5 => ?_)
  refine r_aload_n 24 0 dX11_build_23 rfl rfl rfl ?_
  refine r_iconst 25 0 dX11_build_24 rfl rfl ?_
  refine r_putI 28 dX11_build_25 fkX11_118 (fun _ => dsC_180 P W _) nn180 rfl rfl ?_
  refine ss_tk (fun G6 => ?_)
  refine r_aload_n 29 0 dX11_build_28 rfl rfl rfl ?_
  refine r_iconst 30 0 dX11_build_29 rfl rfl ?_
  refine r_putI 33 dX11_build_30 fkX11_121 (fun _ => dsC_180 P W _) nn180 rfl rfl ?_
  refine ss_tk (fun G7 => ?_)
  refine r_aload_n 34 0 dX11_build_33 rfl rfl rfl ?_
  refine r_iconst 35 0 dX11_build_34 rfl rfl ?_
  refine r_putI 38 dX11_build_35 fkX11_124 (fun _ => dsC_180 P W _) nn180 rfl rfl ?_
  refine ss_tk (fun G8 => ?_)
  refine r_aload_n 39 0 dX11_build_38 rfl rfl rfl ?_
  refine r_iconst 40 0 dX11_build_39 rfl rfl ?_
  refine r_putI 43 dX11_build_40 fkX11_127 (fun _ => dsC_180 P W _) nn180 rfl rfl ?_
  refine ss_tk (fun G9 => ?_)
  refine r_aload_n 44 0 dX11_build_43 rfl rfl rfl ?_
  refine r_iconst 45 0 dX11_build_44 rfl rfl ?_
  refine r_putI 48 dX11_build_45 fkX11_130 (fun _ => dsC_180 P W _) nn180 rfl rfl ?_
  refine ss_tk (fun G10 => ?_)
  refine r_aload_n 49 0 dX11_build_48 rfl rfl rfl ?_
  refine r_iconst 50 0 dX11_build_49 rfl rfl ?_
  refine r_putI 53 dX11_build_50 fkX11_133 (fun _ => dsC_180 P W _) nn180 rfl rfl ?_
  refine ss_tk (fun G11 => ?_)
  refine r_aload_n 54 0 dX11_build_53 rfl rfl rfl ?_
  refine r_iconst 55 0 dX11_build_54 rfl rfl ?_
  refine r_putI 58 dX11_build_55 fkX11_136 (fun _ => dsC_180 P W _) nn180 rfl rfl ?_
  refine ss_tk (fun G12 => ?_)
  refine r_to [0] [(0, aR 180)] rfl ?_
  exact sl_Bd_build_58 P W G12
theorem c_Bd_build (P W : Int) (x1 : Int) (G : St) : MG (MBd_build P W) [aR 180, aI x1] G (Bd_build P W x1 G) := MG.of plX11 (Nat.le_of_ble_eq_true rfl) (s_Bd_build P W x1 G)
theorem s_Ck_become (P W : Int) (x1 : Int) (x2 : Int) (G : St) : SS (MCk_become P W) some 0 [(0, aR 160), (1, aI x1), (2, aI x2)] [] G (Ck_become x1 x2 G) := by
  refine r_aload_n 1 0 dX9_become_0 rfl rfl rfl ?_
  refine r_get 4 (aR 161) dX9_become_1 fkX9_18 (fun _ => dsC_160 P W _) nn160 rfl rfl ?_
  refine r_aload_n 5 0 dX9_become_4 rfl rfl rfl ?_
  refine r_get 8 (aI (G 160 6)) dX9_become_5 fkX9_56 (fun _ => dsC_160 P W _) nn160 rfl rfl ?_
  refine r_iconst 9 1 dX9_become_8 rfl rfl ?_
  refine r_isub 10 dX9_become_9 rfl ?_
  refine r_iload_n 11 1 dX9_become_10 rfl rfl rfl ?_
  refine r_iast 12 dX9_become_11 (fun _ _ _ => dsC_161 P W _) (fun _ _ => nn161) rfl ?_
  refine ss_tk (fun G1 => ?_)
  refine r_aload_n 13 0 dX9_become_12 rfl rfl rfl ?_
  refine r_get 16 (aR 163) dX9_become_13 fkX9_25 (fun _ => dsC_160 P W _) nn160 rfl rfl ?_
  refine r_aload_n 17 0 dX9_become_16 rfl rfl rfl ?_
  refine r_get 20 (aI (G1 160 6)) dX9_become_17 fkX9_56 (fun _ => dsC_160 P W _) nn160 rfl rfl ?_
  refine r_iconst 21 1 dX9_become_20 rfl rfl ?_
  refine r_isub 22 dX9_become_21 rfl ?_
  refine r_iload_n 23 2 dX9_become_22 rfl rfl rfl ?_
  refine r_zast 24 dX9_become_23 (fun _ _ _ => dsC_163 P W _) (fun _ _ => nn163) rfl ?_
  refine ss_tk (fun G2 => ?_)
  exact r_return dX9_become_24 rfl
theorem c_Ck_become (P W : Int) (x1 : Int) (x2 : Int) (G : St) : MG (MCk_become P W) [aR 160, aI x1, aI x2] G (Ck_become x1 x2 G) := MG.of plX9 (Nat.le_of_ble_eq_true rfl) (s_Ck_become P W x1 x2 G)
theorem s_Ck_push (P W : Int) (x1 : Int) (x2 : Int) (x3 : Int) (G : St) : SS (MCk_push P W) some 0 [(0, aR 160), (1, aI x1), (2, aI x2), (3, aI x3)] [] G (Ck_push x1 x2 x3 G) := by
  refine r_aload_n 1 0 dX9_push_0 rfl rfl rfl ?_
  refine r_get 4 (aR 161) dX9_push_1 fkX9_18 (fun _ => dsC_160 P W _) nn160 rfl rfl ?_
  refine r_aload_n 5 0 dX9_push_4 rfl rfl rfl ?_
  refine r_get 8 (aI (G 160 6)) dX9_push_5 fkX9_56 (fun _ => dsC_160 P W _) nn160 rfl rfl ?_
  refine r_iload_n 9 1 dX9_push_8 rfl rfl rfl ?_
  refine r_iast 10 dX9_push_9 (fun _ _ _ => dsC_161 P W _) (fun _ _ => nn161) rfl ?_
  refine ss_tk (fun G1 => ?_)
  refine r_aload_n 11 0 dX9_push_10 rfl rfl rfl ?_
  refine r_get 14 (aR 163) dX9_push_11 fkX9_25 (fun _ => dsC_160 P W _) nn160 rfl rfl ?_
  refine r_aload_n 15 0 dX9_push_14 rfl rfl rfl ?_
  refine r_get 18 (aI (G1 160 6)) dX9_push_15 fkX9_56 (fun _ => dsC_160 P W _) nn160 rfl rfl ?_
  refine r_iload_n 19 2 dX9_push_18 rfl rfl rfl ?_
  refine r_zast 20 dX9_push_19 (fun _ _ _ => dsC_163 P W _) (fun _ _ => nn163) rfl ?_
  refine ss_tk (fun G2 => ?_)
  refine r_aload_n 21 0 dX9_push_20 rfl rfl rfl ?_
  refine r_get 24 (aR 162) dX9_push_21 fkX9_22 (fun _ => dsC_160 P W _) nn160 rfl rfl ?_
  refine r_aload_n 25 0 dX9_push_24 rfl rfl rfl ?_
  refine r_get 28 (aI (G2 160 6)) dX9_push_25 fkX9_56 (fun _ => dsC_160 P W _) nn160 rfl rfl ?_
  refine r_iload_n 29 3 dX9_push_28 rfl rfl rfl ?_
  refine r_iast 30 dX9_push_29 (fun _ _ _ => dsC_162 P W _) (fun _ _ => nn162) rfl ?_
  refine ss_tk (fun G3 => ?_)
  refine r_aload_n 31 0 dX9_push_30 rfl rfl rfl ?_
  refine r_dup 32 dX9_push_31 rfl rfl ?_
  refine r_get 35 (aI (G3 160 6)) dX9_push_32 fkX9_56 (fun _ => dsC_160 P W _) nn160 rfl rfl ?_
  refine r_iconst 36 1 dX9_push_35 rfl rfl ?_
  refine r_iadd 37 dX9_push_36 rfl ?_
  refine r_putI 40 dX9_push_37 fkX9_56 (fun _ => dsC_160 P W _) nn160 rfl rfl ?_
  refine ss_tk (fun G4 => ?_)
  exact r_return dX9_push_40 rfl
theorem c_Ck_push (P W : Int) (x1 : Int) (x2 : Int) (x3 : Int) (G : St) : MG (MCk_push P W) [aR 160, aI x1, aI x2, aI x3] G (Ck_push x1 x2 x3 G) := MG.of plX9 (Nat.le_of_ble_eq_true rfl) (s_Ck_push P W x1 x2 x3 G)
theorem s_Sc_find_b42 (P W : Int) (x1 : Int) (x2 : Int) (X7 : Int × St → Option (Int × St)) (hX7 : ∀ s, So (MSc_find P W) 7 [(0, aR 190), (1, aI x1), (2, aI x2), (3, aI (s.1))] [] s.2 (X7 s)) (x3 : Int) (G : St) : SS (MSc_find P W) (lk X7 some) 42 [(0, aR 190), (1, aI x1), (2, aI x2), (3, aI x3)] [] G (Sc_find_b42 x1 x2 x3 G) := by
  refine r_iinc 45 [(3, aI (x3 + (-1))), (0, aR 190), (1, aI x1), (2, aI x2)] 3 dX10_find_42 rfl rfl rfl rfl ?_
  refine r_goto 7 dX10_find_45 rfl ?_
  refine r_to [1, 2, 3, 0] [(0, aR 190), (1, aI x1), (2, aI x2), (3, aI (x3 + (-1)))] rfl ?_
  exact SS.back (hX7 (x3 + (-1), G))
theorem s_Sc_find_b40 (P W : Int) (x3 : Int) (G : St) : SS (MSc_find P W) some 40 [(3, aI x3)] [] G (Sc_find_b40 x3 G) := by
  refine r_iload_n 41 0 dX10_find_40 rfl rfl rfl ?_
  exact r_ireturn dX10_find_41 rfl
theorem s_Sc_find_s7 (P W : Int) (x1 : Int) (x2 : Int) (X7 : Int × St → Option (Int × St)) (hX7 : ∀ s, So (MSc_find P W) 7 [(0, aR 190), (1, aI x1), (2, aI x2), (3, aI (s.1))] [] s.2 (X7 s)) (x3 : Int) (G : St) : SS (MSc_find P W) (lk X7 some) 7 [(0, aR 190), (1, aI x1), (2, aI x2), (3, aI x3)] [] G (Sc_find_s7 x1 x2 x3 G) := by
  refine r_iload_n 8 3 dX10_find_7 rfl rfl rfl ?_
  refine r_if_lt 48 11 dX10_find_8 rfl rfl ?_ ?_
  · refine SS.ex ?_
    refine r_iconst 49 (-1) dX10_find_48 rfl rfl ?_
    exact r_ireturn dX10_find_49 rfl
  · refine r_aload_n 12 0 dX10_find_11 rfl rfl rfl ?_
    refine r_get 15 (aR 191) dX10_find_12 fkX10_9 (fun _ => dsC_190 P W _) nn190 rfl rfl ?_
    refine r_iload_n 16 3 dX10_find_15 rfl rfl rfl ?_
    refine r_iald 17 dX10_find_16 (fun _ _ _ => dsC_191 P W _) (fun _ _ => nn191) rfl ?_
    refine r_iload_n 18 1 dX10_find_17 rfl rfl rfl ?_
    refine r_icmp_ne 42 21 dX10_find_18 rfl rfl ?_ ?_
    · exact s_Sc_find_b42 P W x1 x2 X7 hX7 x3 G
    · refine r_iload_n 22 2 dX10_find_21 rfl rfl rfl ?_
      refine r_if_lt 40 25 dX10_find_22 rfl rfl ?_ ?_
      · refine SS.ex ?_
        refine r_to [3] [(3, aI x3)] rfl ?_
        exact s_Sc_find_b40 P W x3 G
      · refine r_iload_n 26 3 dX10_find_25 rfl rfl rfl ?_
        refine r_iload_n 27 2 dX10_find_26 rfl rfl rfl ?_
        refine r_icmp_ge 40 30 dX10_find_27 rfl rfl ?_ ?_
        · refine SS.ex ?_
          refine r_to [3] [(3, aI x3)] rfl ?_
          exact s_Sc_find_b40 P W x3 G
        · refine r_aload_n 31 0 dX10_find_30 rfl rfl rfl ?_
          refine r_get 34 (aR 192) dX10_find_31 fkX10_15 (fun _ => dsC_190 P W _) nn190 rfl rfl ?_
          refine r_iload_n 35 3 dX10_find_34 rfl rfl rfl ?_
          refine r_iald 36 dX10_find_35 (fun _ _ _ => dsC_192 P W _) (fun _ _ => nn192) rfl ?_
          refine r_iconst 37 4 dX10_find_36 rfl rfl ?_
          refine r_icmp_ne 42 40 dX10_find_37 rfl rfl ?_ ?_
          · exact s_Sc_find_b42 P W x1 x2 X7 hX7 x3 G
          · refine SS.ex ?_
            refine r_to [3] [(3, aI x3)] rfl ?_
            exact s_Sc_find_b40 P W x3 G
theorem sl_Sc_find_7 (P W : Int) (x1 : Int) (x2 : Int) (x3 : Int) (G : St) : SS (MSc_find P W) some 7 [(0, aR 190), (1, aI x1), (2, aI x2), (3, aI x3)] [] G (Sc_find_l7 x1 x2 x3 G) := by
  exact SS.loop (σ := Int × St) (fun s => [(0, aR 190), (1, aI x1), (2, aI x2), (3, aI (s.1))]) (fun s => s.2) (fun s => Sc_find_s7 x1 x2 s.1 s.2) (fun X7 hX7 s => s_Sc_find_s7 P W x1 x2  X7 hX7 s.1 s.2) (x3, G)
theorem s_Sc_find (P W : Int) (x1 : Int) (x2 : Int) (G : St) : SS (MSc_find P W) some 0 [(0, aR 190), (1, aI x1), (2, aI x2)] [] G (Sc_find x1 x2 G) := by
  refine r_aload_n 1 0 dX10_find_0 rfl rfl rfl ?_
  refine r_get 4 (aI (G 190 5)) dX10_find_1 fkX10_27 (fun _ => dsC_190 P W _) nn190 rfl rfl ?_
  refine r_iconst 5 1 dX10_find_4 rfl rfl ?_
  refine r_isub 6 dX10_find_5 rfl ?_
  refine r_istore_n 7 [(3, aI ((G 190 5) - 1)), (0, aR 190), (1, aI x1), (2, aI x2)] dX10_find_6 rfl rfl rfl rfl ?_
  refine r_to [1, 2, 3, 0] [(0, aR 190), (1, aI x1), (2, aI x2), (3, aI ((G 190 5) - 1))] rfl ?_
  exact sl_Sc_find_7 P W x1 x2 ((G 190 5) - 1) G
theorem c_Sc_find (P W : Int) (x1 : Int) (x2 : Int) (G : St) : MG (MSc_find P W) [aR 190, aI x1, aI x2] G (Sc_find x1 x2 G) := MG.of plX10 (Nat.le_of_ble_eq_true rfl) (s_Sc_find P W x1 x2 G)
theorem s_Ck_endCall (P W : Int) (x1 : Int) (G : St) : SS (MCk_endCall P W) some 0 [(0, aR 160), (1, aI x1)] [] G (Ck_endCall x1 G) := by
  refine r_aload_n 1 0 dX9_endCall_0 rfl rfl rfl ?_
  refine r_get 4 (aR 190) dX9_endCall_1 fkX9_12 (fun _ => dsC_160 P W _) nn160 rfl rfl ?_
  refine r_get 7 (aR 195) dX9_endCall_4 fkX9_193 (fun _ => dsC_190 P W _) nn190 rfl rfl ?_
  refine r_aload_n 8 0 dX9_endCall_7 rfl rfl rfl ?_
  refine r_get 11 (aR 190) dX9_endCall_8 fkX9_12 (fun _ => dsC_160 P W _) nn160 rfl rfl ?_
  refine r_aload_n 12 0 dX9_endCall_11 rfl rfl rfl ?_
  refine r_get 15 (aR 110) dX9_endCall_12 fkX9_48 (fun _ => dsC_160 P W _) nn160 rfl rfl ?_
  refine r_get 18 (aR 112) dX9_endCall_15 fkX9_133 (fun _ => dsC_110 P W _) nn110 rfl rfl ?_
  refine r_iload_n 19 1 dX9_endCall_18 rfl rfl rfl ?_
  refine r_iald 20 dX9_endCall_19 (fun _ _ _ => dsC_112 P W _) (fun _ _ => nn112) rfl ?_
  refine r_aload_n 21 0 dX9_endCall_20 rfl rfl rfl ?_
  refine r_get 24 (aI (G 160 13)) dX9_endCall_21 fkX9_65 (fun _ => dsC_160 P W _) nn160 rfl rfl ?_
  refine r_callvI 27 (Mc := MSc_find P W) (o := 190) (as := [aI (G 112 x1), aI (G 160 13)]) (st := [aR 195]) dX9_endCall_24 rfl (c_Sc_find P W (G 112 x1) (G 160 13) G) lkX9_68 (cmSc_find P W) rfl rfl rfl (fun _ => dsC_190 P W _) nn190 rfl (Nat.le_of_ble_eq_true rfl) (Nat.le_of_ble_eq_true rfl) (fun _ => rfl) rfl (fun z1 G2 => ?_)
  refine r_iald 28 dX9_endCall_27 (fun _ _ _ => dsC_195 P W _) (fun _ _ => nn195) rfl ?_
  refine r_istore_n 29 [(2, aI (G2 195 z1)), (0, aR 160), (1, aI x1)] dX9_endCall_28 rfl rfl rfl rfl ?_
  refine r_aload_n 30 1 dX9_endCall_29 rfl rfl rfl ?_
  refine r_dup 31 dX9_endCall_30 rfl rfl ?_
  refine r_get 34 (aI (G2 160 6)) dX9_endCall_31 fkX9_56 (fun _ => dsC_160 P W _) nn160 rfl rfl ?_
  refine r_aload_n 35 1 dX9_endCall_34 rfl rfl rfl ?_
  refine r_get 38 (aR 110) dX9_endCall_35 fkX9_48 (fun _ => dsC_160 P W _) nn160 rfl rfl ?_
  refine r_get 41 (aR 114) dX9_endCall_38 fkX9_143 (fun _ => dsC_110 P W _) nn110 rfl rfl ?_
  refine r_iload_n 42 2 dX9_endCall_41 rfl rfl rfl ?_
  refine r_iald 43 dX9_endCall_42 (fun _ _ _ => dsC_114 P W _) (fun _ _ => nn114) rfl ?_
  refine r_isub 44 dX9_endCall_43 rfl ?_
  refine r_putI 47 dX9_endCall_44 fkX9_56 (fun _ => dsC_160 P W _) nn160 rfl rfl ?_
  refine ss_tk (fun G3 => ?_)
  refine r_aload_n 48 1 dX9_endCall_47 rfl rfl rfl ?_
  refine r_aload_n 49 1 dX9_endCall_48 rfl rfl rfl ?_
  refine r_get 52 (aR 165) dX9_endCall_49 fkX9_32 (fun _ => dsC_160 P W _) nn160 rfl rfl ?_
  refine r_iload_n 53 0 dX9_endCall_52 rfl rfl rfl ?_
  refine r_iald 54 dX9_endCall_53 (fun _ _ _ => dsC_165 P W _) (fun _ _ => nn165) rfl ?_
  refine r_iconst 55 0 dX9_endCall_54 rfl rfl ?_
  refine r_aload_n 56 1 dX9_endCall_55 rfl rfl rfl ?_
  refine r_get 59 (aR 110) dX9_endCall_56 fkX9_48 (fun _ => dsC_160 P W _) nn160 rfl rfl ?_
  refine r_get 62 (aR 113) dX9_endCall_59 fkX9_136 (fun _ => dsC_110 P W _) nn110 rfl rfl ?_
  refine r_iload_n 63 2 dX9_endCall_62 rfl rfl rfl ?_
  refine r_iald 64 dX9_endCall_63 (fun _ _ _ => dsC_113 P W _) (fun _ _ => nn113) rfl ?_
  refine r_callvV 67 (Mc := MCk_push P W) (o := 160) (as := [aI (G3 165 (G2 195 z1)), aI 0, aI (G3 113 x1)]) (st := []) dX9_endCall_64 rfl (c_Ck_push P W (G3 165 (G2 195 z1)) 0 (G3 113 x1) G3) lkX9_196 (cmCk_push P W) rfl rfl rfl (fun _ => dsC_160 P W _) nn160 rfl (Nat.le_of_ble_eq_true rfl) (Nat.le_of_ble_eq_true rfl) (fun _ => rfl) rfl (fun z4 G5 => ?_)
  refine r_aload_n 68 1 dX9_endCall_67 rfl rfl rfl ?_
  refine r_get 71 (aR 110) dX9_endCall_68 fkX9_48 (fun _ => dsC_160 P W _) nn160 rfl rfl ?_
  refine r_get 74 (aR 112) dX9_endCall_71 fkX9_133 (fun _ => dsC_110 P W _) nn110 rfl rfl ?_
  refine r_iload_n 75 2 dX9_endCall_74 rfl rfl rfl ?_
  refine r_iload_n 76 0 dX9_endCall_75 rfl rfl rfl ?_
  refine r_iast 77 dX9_endCall_76 (fun _ _ _ => dsC_112 P W _) (fun _ _ => nn112) rfl ?_
  refine ss_tk (fun G6 => ?_)
  exact r_return dX9_endCall_77 rfl
theorem c_Ck_endCall (P W : Int) (x1 : Int) (G : St) : MG (MCk_endCall P W) [aR 160, aI x1] G (Ck_endCall x1 G) := MG.of plX9 (Nat.le_of_ble_eq_true rfl) (s_Ck_endCall P W x1 G)
theorem s_Ck_index_b82 (P W : Int) (x1 : Int) (x2 : Int) (s0 : Int) (s1 : Int) (s2 : Int) (s3 : Int) (G : St) : SS (MCk_index P W) some 82 [(0, aR 160), (1, aI x1), (2, aI x2)] [aI s0, aI s1, aI s2, aI s3, aR 114] G (Ck_index_b82 x1 x2 s0 s1 s2 s3 G) := by
  refine r_imul 83 dX9_index_82 rfl ?_
  refine r_iadd 84 dX9_index_83 rfl ?_
  refine r_aload_n 85 0 dX9_index_84 rfl rfl rfl ?_
  refine r_get 88 (aR 190) dX9_index_85 fkX9_12 (fun _ => dsC_160 P W _) nn160 rfl rfl ?_
  refine r_get 91 (aR 193) dX9_index_88 fkX9_192 (fun _ => dsC_190 P W _) nn190 rfl rfl ?_
  refine r_iload_n 92 2 dX9_index_91 rfl rfl rfl ?_
  refine r_iald 93 dX9_index_92 (fun _ _ _ => dsC_193 P W _) (fun _ _ => nn193) rfl ?_
  refine r_iadd 94 dX9_index_93 rfl ?_
  refine r_iast 95 dX9_index_94 (fun _ _ _ => dsC_114 P W _) (fun _ _ => nn114) rfl ?_
  refine ss_tk (fun G3 => ?_)
  refine r_aload_n 96 0 dX9_index_95 rfl rfl rfl ?_
  refine r_get 99 (aR 110) dX9_index_96 fkX9_48 (fun _ => dsC_160 P W _) nn160 rfl rfl ?_
  refine r_get 102 (aR 112) dX9_index_99 fkX9_133 (fun _ => dsC_110 P W _) nn110 rfl rfl ?_
  refine r_iload_n 103 1 dX9_index_102 rfl rfl rfl ?_
  refine r_aload_n 104 0 dX9_index_103 rfl rfl rfl ?_
  refine r_get 107 (aR 190) dX9_index_104 fkX9_12 (fun _ => dsC_160 P W _) nn160 rfl rfl ?_
  refine r_get 110 (aR 195) dX9_index_107 fkX9_193 (fun _ => dsC_190 P W _) nn190 rfl rfl ?_
  refine r_iload_n 111 2 dX9_index_110 rfl rfl rfl ?_
  refine r_iald 112 dX9_index_111 (fun _ _ _ => dsC_195 P W _) (fun _ _ => nn195) rfl ?_
  refine r_iast 113 dX9_index_112 (fun _ _ _ => dsC_112 P W _) (fun _ _ => nn112) rfl ?_
  refine ss_tk (fun G4 => ?_)
  refine r_aload_n 114 0 dX9_index_113 rfl rfl rfl ?_
  refine r_get 117 (aR 110) dX9_index_114 fkX9_48 (fun _ => dsC_160 P W _) nn160 rfl rfl ?_
  refine r_get 120 (aR 113) dX9_index_117 fkX9_136 (fun _ => dsC_110 P W _) nn110 rfl rfl ?_
  refine r_iload_n 121 1 dX9_index_120 rfl rfl rfl ?_
  refine r_aload_n 122 0 dX9_index_121 rfl rfl rfl ?_
  refine r_get 125 (aR 162) dX9_index_122 fkX9_22 (fun _ => dsC_160 P W _) nn160 rfl rfl ?_
  refine r_aload_n 126 0 dX9_index_125 rfl rfl rfl ?_
  refine r_get 129 (aI (G4 160 6)) dX9_index_126 fkX9_56 (fun _ => dsC_160 P W _) nn160 rfl rfl ?_
  refine r_iconst 130 1 dX9_index_129 rfl rfl ?_
  refine r_isub 131 dX9_index_130 rfl ?_
  refine r_iald 132 dX9_index_131 (fun _ _ _ => dsC_162 P W _) (fun _ _ => nn162) rfl ?_
  refine r_iast 133 dX9_index_132 (fun _ _ _ => dsC_113 P W _) (fun _ _ => nn113) rfl ?_
  refine ss_tk (fun G5 => ?_)
  exact r_return dX9_index_133 rfl
theorem s_Ck_index_b60 (P W : Int) (x1 : Int) (x2 : Int) (s0 : Int) (s1 : Int) (s2 : Int) (s3 : Int) (G : St) : SS (MCk_index P W) some 60 [(0, aR 160), (1, aI x1), (2, aI x2)] [aI s0, aI s1, aI s2, aI s3, aR 114] G (Ck_index_b60 x1 x2 s0 s1 s2 s3 G) := by
  refine r_imul 61 dX9_index_60 rfl ?_
  refine r_iadd 62 dX9_index_61 rfl ?_
  refine r_iconst 63 2 dX9_index_62 rfl rfl ?_
  refine r_aload_n 64 0 dX9_index_63 rfl rfl rfl ?_
  refine r_get 67 (aR 163) dX9_index_64 fkX9_25 (fun _ => dsC_160 P W _) nn160 rfl rfl ?_
  refine r_aload_n 68 0 dX9_index_67 rfl rfl rfl ?_
  refine r_get 71 (aI (G 160 6)) dX9_index_68 fkX9_56 (fun _ => dsC_160 P W _) nn160 rfl rfl ?_
  refine r_iconst 72 1 dX9_index_71 rfl rfl ?_
  refine r_isub 73 dX9_index_72 rfl ?_
  refine r_zald 74 dX9_index_73 (fun _ _ _ => dsC_163 P W _) (fun _ _ => nn163) rfl ?_
  refine SS.phi (fun VV_ => Ck_index_b82 x1 x2 VV_ 2 (s2 + (s1 * s0)) s3 G) ?_
  refine r_if_eq 81 77 dX9_index_74 rfl rfl ?_ ?_
  · refine r_iconst 82 0 dX9_index_81 rfl rfl ?_
    exact s_Ck_index_b82 P W x1 x2 0 2 (s2 + (s1 * s0)) s3 G
  · refine r_iconst 78 1 dX9_index_77 rfl rfl ?_
    refine r_goto 82 dX9_index_78 rfl ?_
    exact s_Ck_index_b82 P W x1 x2 1 2 (s2 + (s1 * s0)) s3 G
theorem s_Ck_index (P W : Int) (x1 : Int) (G : St) : SS (MCk_index P W) some 0 [(0, aR 160), (1, aI x1)] [] G (Ck_index x1 G) := by
  refine r_aload_n 1 0 dX9_index_0 rfl rfl rfl ?_
  refine r_get 4 (aR 190) dX9_index_1 fkX9_12 (fun _ => dsC_160 P W _) nn160 rfl rfl ?_
  refine r_aload_n 5 0 dX9_index_4 rfl rfl rfl ?_
  refine r_get 8 (aR 110) dX9_index_5 fkX9_48 (fun _ => dsC_160 P W _) nn160 rfl rfl ?_
  refine r_get 11 (aR 112) dX9_index_8 fkX9_133 (fun _ => dsC_110 P W _) nn110 rfl rfl ?_
  refine r_iload_n 12 1 dX9_index_11 rfl rfl rfl ?_
  refine r_iald 13 dX9_index_12 (fun _ _ _ => dsC_112 P W _) (fun _ _ => nn112) rfl ?_
  refine r_aload_n 14 0 dX9_index_13 rfl rfl rfl ?_
  refine r_get 17 (aI (G 160 13)) dX9_index_14 fkX9_65 (fun _ => dsC_160 P W _) nn160 rfl rfl ?_
  refine r_callvI 20 (Mc := MSc_find P W) (o := 190) (as := [aI (G 112 x1), aI (G 160 13)]) (st := []) dX9_index_17 rfl (c_Sc_find P W (G 112 x1) (G 160 13) G) lkX9_68 (cmSc_find P W) rfl rfl rfl (fun _ => dsC_190 P W _) nn190 rfl (Nat.le_of_ble_eq_true rfl) (Nat.le_of_ble_eq_true rfl) (fun _ => rfl) rfl (fun z1 G2 => ?_)
  refine r_istore_n 21 [(2, aI z1), (0, aR 160), (1, aI x1)] dX9_index_20 rfl rfl rfl rfl ?_
  refine r_aload_n 22 1 dX9_index_21 rfl rfl rfl ?_
  refine r_get 25 (aR 110) dX9_index_22 fkX9_48 (fun _ => dsC_160 P W _) nn160 rfl rfl ?_
  refine r_get 28 (aR 114) dX9_index_25 fkX9_143 (fun _ => dsC_110 P W _) nn110 rfl rfl ?_
  refine r_iload_n 29 2 dX9_index_28 rfl rfl rfl ?_
  refine r_sipush 32 512 dX9_index_29 rfl rfl ?_
  refine r_aload_n 33 1 dX9_index_32 rfl rfl rfl ?_
  refine r_get 36 (aR 190) dX9_index_33 fkX9_12 (fun _ => dsC_160 P W _) nn160 rfl rfl ?_
  refine r_get 39 (aR 194) dX9_index_36 fkX9_189 (fun _ => dsC_190 P W _) nn190 rfl rfl ?_
  refine r_iload_n 40 0 dX9_index_39 rfl rfl rfl ?_
  refine r_iald 41 dX9_index_40 (fun _ _ _ => dsC_194 P W _) (fun _ _ => nn194) rfl ?_
  refine r_imul 42 dX9_index_41 rfl ?_
  refine r_iconst 43 4 dX9_index_42 rfl rfl ?_
  refine r_aload_n 44 1 dX9_index_43 rfl rfl rfl ?_
  refine r_get 47 (aR 190) dX9_index_44 fkX9_12 (fun _ => dsC_160 P W _) nn160 rfl rfl ?_
  refine r_get 50 (aR 192) dX9_index_47 fkX9_186 (fun _ => dsC_190 P W _) nn190 rfl rfl ?_
  refine r_iload_n 51 0 dX9_index_50 rfl rfl rfl ?_
  refine r_iald 52 dX9_index_51 (fun _ _ _ => dsC_192 P W _) (fun _ _ => nn192) rfl ?_
  refine SS.phi (fun VV_ => Ck_index_b60 x1 z1 VV_ 4 (512 * (G2 194 z1)) x1 G2) ?_
  refine r_if_ne 59 55 dX9_index_52 rfl rfl ?_ ?_
  · refine r_iconst 60 0 dX9_index_59 rfl rfl ?_
    refine r_to [1, 2, 0] [(0, aR 160), (1, aI x1), (2, aI z1)] rfl ?_
    exact s_Ck_index_b60 P W x1 z1 0 4 (512 * (G2 194 z1)) x1 G2
  · refine r_iconst 56 1 dX9_index_55 rfl rfl ?_
    refine r_goto 60 dX9_index_56 rfl ?_
    refine r_to [1, 2, 0] [(0, aR 160), (1, aI x1), (2, aI z1)] rfl ?_
    exact s_Ck_index_b60 P W x1 z1 1 4 (512 * (G2 194 z1)) x1 G2
theorem c_Ck_index (P W : Int) (x1 : Int) (G : St) : MG (MCk_index P W) [aR 160, aI x1] G (Ck_index x1 G) := MG.of plX9 (Nat.le_of_ble_eq_true rfl) (s_Ck_index P W x1 G)
theorem s_Ck_need (P W : Int) (x1 : Int) (x2 : Int) (G : St) : SS (MCk_need P W) some 0 [(0, aR 160), (1, aI x1), (2, aI x2)] [] G (Ck_need x1 x2 G) := by
  refine r_iload_n 1 1 dX9_need_0 rfl rfl rfl ?_
  refine r_if_ne 13 4 dX9_need_1 rfl rfl ?_ ?_
  · exact r_return dX9_need_13 rfl
  · refine r_aload_n 5 0 dX9_need_4 rfl rfl rfl ?_
    refine r_get 8 (aR 130) dX9_need_5 fkX9_52 (fun _ => dsC_160 P W _) nn160 rfl rfl ?_
    refine r_iconst 9 5 dX9_need_8 rfl rfl ?_
    refine r_iload_n 10 2 dX9_need_9 rfl rfl rfl ?_
    refine r_callvV 13 (Mc := MFt_set P W) (o := 130) (as := [aI 5, aI x2]) (st := []) dX9_need_10 rfl (c_Ft_set P W 5 x2 G) lkX9_59 (cmFt_set P W) rfl rfl rfl (fun _ => dsC_130 P W _) nn130 rfl (Nat.le_of_ble_eq_true rfl) (Nat.le_of_ble_eq_true rfl) (fun _ => rfl) rfl (fun z1 G2 => ?_)
    exact r_return dX9_need_13 rfl
theorem c_Ck_need (P W : Int) (x1 : Int) (x2 : Int) (G : St) : MG (MCk_need P W) [aR 160, aI x1, aI x2] G (Ck_need x1 x2 G) := MG.of plX9 (Nat.le_of_ble_eq_true rfl) (s_Ck_need P W x1 x2 G)
theorem s_Ck_visible_b27 (P W : Int) (x3 : Int) (G : St) : SS (MCk_visible P W) some 27 [(3, aI x3)] [] G (Ck_visible_b27 x3 G) := by
  refine r_iload_n 28 0 dX9_visible_27 rfl rfl rfl ?_
  exact r_ireturn dX9_visible_28 rfl
theorem s_Ck_visible (P W : Int) (x1 : Int) (x2 : Int) (G : St) : SS (MCk_visible P W) some 0 [(0, aR 160), (1, aI x1), (2, aI x2)] [] G (Ck_visible x1 x2 G) := by
  refine r_aload_n 1 0 dX9_visible_0 rfl rfl rfl ?_
  refine r_get 4 (aR 190) dX9_visible_1 fkX9_12 (fun _ => dsC_160 P W _) nn160 rfl rfl ?_
  refine r_iload_n 5 1 dX9_visible_4 rfl rfl rfl ?_
  refine r_aload_n 6 0 dX9_visible_5 rfl rfl rfl ?_
  refine r_get 9 (aI (G 160 13)) dX9_visible_6 fkX9_65 (fun _ => dsC_160 P W _) nn160 rfl rfl ?_
  refine r_callvI 12 (Mc := MSc_find P W) (o := 190) (as := [aI x1, aI (G 160 13)]) (st := []) dX9_visible_9 rfl (c_Sc_find P W x1 (G 160 13) G) lkX9_68 (cmSc_find P W) rfl rfl rfl (fun _ => dsC_190 P W _) nn190 rfl (Nat.le_of_ble_eq_true rfl) (Nat.le_of_ble_eq_true rfl) (fun _ => rfl) rfl (fun z1 G2 => ?_)
  refine r_istore_n 13 [(3, aI z1), (0, aR 160), (1, aI x1), (2, aI x2)] dX9_visible_12 rfl rfl rfl rfl ?_
  refine r_iload_n 14 0 dX9_visible_13 rfl rfl rfl ?_
  refine r_iconst 15 (-1) dX9_visible_14 rfl rfl ?_
  refine r_icmp_ne 27 18 dX9_visible_15 rfl rfl ?_ ?_
  · refine r_to [0] [(3, aI z1)] rfl ?_
    exact s_Ck_visible_b27 P W z1 G2
  · refine r_aload_n 19 1 dX9_visible_18 rfl rfl rfl ?_
    refine r_get 22 (aR 130) dX9_visible_19 fkX9_52 (fun _ => dsC_160 P W _) nn160 rfl rfl ?_
    refine r_iconst 23 4 dX9_visible_22 rfl rfl ?_
    refine r_iload_n 24 3 dX9_visible_23 rfl rfl rfl ?_
    refine r_callvV 27 (Mc := MFt_set P W) (o := 130) (as := [aI 4, aI x2]) (st := []) dX9_visible_24 rfl (c_Ft_set P W 4 x2 G2) lkX9_59 (cmFt_set P W) rfl rfl rfl (fun _ => dsC_130 P W _) nn130 rfl (Nat.le_of_ble_eq_true rfl) (Nat.le_of_ble_eq_true rfl) (fun _ => rfl) rfl (fun z3 G4 => ?_)
    refine r_to [0] [(3, aI z1)] rfl ?_
    exact s_Ck_visible_b27 P W z1 G4
theorem c_Ck_visible (P W : Int) (x1 : Int) (x2 : Int) (G : St) : MG (MCk_visible P W) [aR 160, aI x1, aI x2] G (Ck_visible x1 x2 G) := MG.of plX9 (Nat.le_of_ble_eq_true rfl) (s_Ck_visible P W x1 x2 G)
theorem s_Ck_read_b100 (P W : Int) (x1 : Int) (x2 : Int) (s0 : Int) (s1 : Int) (G : St) : SS (MCk_read P W) some 100 [(0, aR 160), (1, aI x1), (2, aI x2)] [aI s0, aI s1, aR 160] G (Ck_read_b100 x1 x2 s0 s1 G) := by
  refine r_aload_n 101 0 dX9_read_100 rfl rfl rfl ?_
  refine r_get 104 (aR 110) dX9_read_101 fkX9_48 (fun _ => dsC_160 P W _) nn160 rfl rfl ?_
  refine r_get 107 (aR 113) dX9_read_104 fkX9_136 (fun _ => dsC_110 P W _) nn110 rfl rfl ?_
  refine r_iload_n 108 1 dX9_read_107 rfl rfl rfl ?_
  refine r_iald 109 dX9_read_108 (fun _ _ _ => dsC_113 P W _) (fun _ _ => nn113) rfl ?_
  refine r_callvV 112 (Mc := MCk_push P W) (o := 160) (as := [aI s1, aI s0, aI (G 113 x1)]) (st := []) dX9_read_109 rfl (c_Ck_push P W s1 s0 (G 113 x1) G) lkX9_196 (cmCk_push P W) rfl rfl rfl (fun _ => dsC_160 P W _) nn160 rfl (Nat.le_of_ble_eq_true rfl) (Nat.le_of_ble_eq_true rfl) (fun _ => rfl) rfl (fun z5 G6 => ?_)
  refine r_aload_n 113 0 dX9_read_112 rfl rfl rfl ?_
  refine r_get 116 (aR 110) dX9_read_113 fkX9_48 (fun _ => dsC_160 P W _) nn160 rfl rfl ?_
  refine r_get 119 (aR 112) dX9_read_116 fkX9_133 (fun _ => dsC_110 P W _) nn110 rfl rfl ?_
  refine r_iload_n 120 1 dX9_read_119 rfl rfl rfl ?_
  refine r_aload_n 121 0 dX9_read_120 rfl rfl rfl ?_
  refine r_get 124 (aR 190) dX9_read_121 fkX9_12 (fun _ => dsC_160 P W _) nn160 rfl rfl ?_
  refine r_get 127 (aR 195) dX9_read_124 fkX9_193 (fun _ => dsC_190 P W _) nn190 rfl rfl ?_
  refine r_iload_n 128 2 dX9_read_127 rfl rfl rfl ?_
  refine r_iald 129 dX9_read_128 (fun _ _ _ => dsC_195 P W _) (fun _ _ => nn195) rfl ?_
  refine r_iast 130 dX9_read_129 (fun _ _ _ => dsC_112 P W _) (fun _ _ => nn112) rfl ?_
  refine ss_tk (fun G7 => ?_)
  refine r_aload_n 131 0 dX9_read_130 rfl rfl rfl ?_
  refine r_get 134 (aR 110) dX9_read_131 fkX9_48 (fun _ => dsC_160 P W _) nn160 rfl rfl ?_
  refine r_get 137 (aR 114) dX9_read_134 fkX9_143 (fun _ => dsC_110 P W _) nn110 rfl rfl ?_
  refine r_iload_n 138 1 dX9_read_137 rfl rfl rfl ?_
  refine r_iconst 139 2 dX9_read_138 rfl rfl ?_
  refine r_aload_n 140 0 dX9_read_139 rfl rfl rfl ?_
  refine r_get 143 (aR 190) dX9_read_140 fkX9_12 (fun _ => dsC_160 P W _) nn160 rfl rfl ?_
  refine r_get 146 (aR 192) dX9_read_143 fkX9_186 (fun _ => dsC_190 P W _) nn190 rfl rfl ?_
  refine r_iload_n 147 2 dX9_read_146 rfl rfl rfl ?_
  refine r_iald 148 dX9_read_147 (fun _ _ _ => dsC_192 P W _) (fun _ _ => nn192) rfl ?_
  refine r_imul 149 dX9_read_148 rfl ?_
  refine r_aload_n 150 0 dX9_read_149 rfl rfl rfl ?_
  refine r_get 153 (aR 190) dX9_read_150 fkX9_12 (fun _ => dsC_160 P W _) nn160 rfl rfl ?_
  refine r_get 156 (aR 193) dX9_read_153 fkX9_192 (fun _ => dsC_190 P W _) nn190 rfl rfl ?_
  refine r_iload_n 157 2 dX9_read_156 rfl rfl rfl ?_
  refine r_iald 158 dX9_read_157 (fun _ _ _ => dsC_193 P W _) (fun _ _ => nn193) rfl ?_
  refine r_iadd 159 dX9_read_158 rfl ?_
  refine r_iast 160 dX9_read_159 (fun _ _ _ => dsC_114 P W _) (fun _ _ => nn114) rfl ?_
  refine ss_tk (fun G8 => ?_)
  exact r_return dX9_read_160 rfl
theorem s_Ck_read_b60 (P W : Int) (x1 : Int) (x2 : Int) (s0 : Int) (G : St) : SS (MCk_read P W) some 60 [(0, aR 160), (1, aI x1), (2, aI x2)] [aI s0, aR 160] G (Ck_read_b60 x1 x2 s0 G) := by
  refine r_aload_n 61 0 dX9_read_60 rfl rfl rfl ?_
  refine r_get 64 (aR 110) dX9_read_61 fkX9_48 (fun _ => dsC_160 P W _) nn160 rfl rfl ?_
  refine r_get 67 (aR 113) dX9_read_64 fkX9_136 (fun _ => dsC_110 P W _) nn110 rfl rfl ?_
  refine r_iload_n 68 1 dX9_read_67 rfl rfl rfl ?_
  refine r_iald 69 dX9_read_68 (fun _ _ _ => dsC_113 P W _) (fun _ _ => nn113) rfl ?_
  refine r_callvV 72 (Mc := MCk_need P W) (o := 160) (as := [aI s0, aI (G 113 x1)]) (st := []) dX9_read_69 rfl (c_Ck_need P W s0 (G 113 x1) G) lkX9_159 (cmCk_need P W) rfl rfl rfl (fun _ => dsC_160 P W _) nn160 rfl (Nat.le_of_ble_eq_true rfl) (Nat.le_of_ble_eq_true rfl) (fun _ => rfl) rfl (fun z3 G4 => ?_)
  refine r_aload_n 73 0 dX9_read_72 rfl rfl rfl ?_
  refine r_aload_n 74 0 dX9_read_73 rfl rfl rfl ?_
  refine r_get 77 (aR 190) dX9_read_74 fkX9_12 (fun _ => dsC_160 P W _) nn160 rfl rfl ?_
  refine r_get 80 (aR 193) dX9_read_77 fkX9_192 (fun _ => dsC_190 P W _) nn190 rfl rfl ?_
  refine r_iload_n 81 2 dX9_read_80 rfl rfl rfl ?_
  refine r_iald 82 dX9_read_81 (fun _ _ _ => dsC_193 P W _) (fun _ _ => nn193) rfl ?_
  refine r_aload_n 83 0 dX9_read_82 rfl rfl rfl ?_
  refine r_get 86 (aR 190) dX9_read_83 fkX9_12 (fun _ => dsC_160 P W _) nn160 rfl rfl ?_
  refine r_get 89 (aR 192) dX9_read_86 fkX9_186 (fun _ => dsC_190 P W _) nn190 rfl rfl ?_
  refine r_iload_n 90 2 dX9_read_89 rfl rfl rfl ?_
  refine r_iald 91 dX9_read_90 (fun _ _ _ => dsC_192 P W _) (fun _ _ => nn192) rfl ?_
  refine r_iconst 92 2 dX9_read_91 rfl rfl ?_
  refine SS.phi (fun VV_ => Ck_read_b100 x1 x2 VV_ (G4 193 x2) G4) ?_
  refine r_icmp_ne 99 95 dX9_read_92 rfl rfl ?_ ?_
  · refine r_iconst 100 0 dX9_read_99 rfl rfl ?_
    exact s_Ck_read_b100 P W x1 x2 0 (G4 193 x2) G4
  · refine r_iconst 96 1 dX9_read_95 rfl rfl ?_
    refine r_goto 100 dX9_read_96 rfl ?_
    exact s_Ck_read_b100 P W x1 x2 1 (G4 193 x2) G4
theorem s_Ck_read (P W : Int) (x1 : Int) (G : St) : SS (MCk_read P W) some 0 [(0, aR 160), (1, aI x1)] [] G (Ck_read x1 G) := by
  refine r_aload_n 1 0 dX9_read_0 rfl rfl rfl ?_
  refine r_aload_n 2 0 dX9_read_1 rfl rfl rfl ?_
  refine r_get 5 (aR 110) dX9_read_2 fkX9_48 (fun _ => dsC_160 P W _) nn160 rfl rfl ?_
  refine r_get 8 (aR 112) dX9_read_5 fkX9_133 (fun _ => dsC_110 P W _) nn110 rfl rfl ?_
  refine r_iload_n 9 1 dX9_read_8 rfl rfl rfl ?_
  refine r_iald 10 dX9_read_9 (fun _ _ _ => dsC_112 P W _) (fun _ _ => nn112) rfl ?_
  refine r_aload_n 11 0 dX9_read_10 rfl rfl rfl ?_
  refine r_get 14 (aR 110) dX9_read_11 fkX9_48 (fun _ => dsC_160 P W _) nn160 rfl rfl ?_
  refine r_get 17 (aR 113) dX9_read_14 fkX9_136 (fun _ => dsC_110 P W _) nn110 rfl rfl ?_
  refine r_iload_n 18 1 dX9_read_17 rfl rfl rfl ?_
  refine r_iald 19 dX9_read_18 (fun _ _ _ => dsC_113 P W _) (fun _ _ => nn113) rfl ?_
  refine r_callvI 22 (Mc := MCk_visible P W) (o := 160) (as := [aI (G 112 x1), aI (G 113 x1)]) (st := []) dX9_read_19 rfl (c_Ck_visible P W (G 112 x1) (G 113 x1) G) lkX9_180 (cmCk_visible P W) rfl rfl rfl (fun _ => dsC_160 P W _) nn160 rfl (Nat.le_of_ble_eq_true rfl) (Nat.le_of_ble_eq_true rfl) (fun _ => rfl) rfl (fun z1 G2 => ?_)
  refine r_istore_n 23 [(2, aI z1), (0, aR 160), (1, aI x1)] dX9_read_22 rfl rfl rfl rfl ?_
  refine r_iload_n 24 0 dX9_read_23 rfl rfl rfl ?_
  refine r_iconst 25 (-1) dX9_read_24 rfl rfl ?_
  refine r_icmp_ne 29 28 dX9_read_25 rfl rfl ?_ ?_
  · refine r_aload_n 30 1 dX9_read_29 rfl rfl rfl ?_
    refine r_aload_n 31 1 dX9_read_30 rfl rfl rfl ?_
    refine r_get 34 (aR 190) dX9_read_31 fkX9_12 (fun _ => dsC_160 P W _) nn160 rfl rfl ?_
    refine r_get 37 (aR 192) dX9_read_34 fkX9_186 (fun _ => dsC_190 P W _) nn190 rfl rfl ?_
    refine r_iload_n 38 0 dX9_read_37 rfl rfl rfl ?_
    refine r_iald 39 dX9_read_38 (fun _ _ _ => dsC_192 P W _) (fun _ _ => nn192) rfl ?_
    refine r_iconst 40 4 dX9_read_39 rfl rfl ?_
    refine r_icmp_eq 59 43 dX9_read_40 rfl rfl ?_ ?_
    · refine r_iconst 60 0 dX9_read_59 rfl rfl ?_
      refine r_to [1, 2, 0] [(0, aR 160), (1, aI x1), (2, aI z1)] rfl ?_
      exact s_Ck_read_b60 P W x1 z1 0 G2
    · refine r_aload_n 44 1 dX9_read_43 rfl rfl rfl ?_
      refine r_get 47 (aR 190) dX9_read_44 fkX9_12 (fun _ => dsC_160 P W _) nn160 rfl rfl ?_
      refine r_get 50 (aR 194) dX9_read_47 fkX9_189 (fun _ => dsC_190 P W _) nn190 rfl rfl ?_
      refine r_iload_n 51 0 dX9_read_50 rfl rfl rfl ?_
      refine r_iald 52 dX9_read_51 (fun _ _ _ => dsC_194 P W _) (fun _ _ => nn194) rfl ?_
      refine SS.phi (fun VV_ => Ck_read_b60 x1 z1 VV_ G2) ?_
      refine r_if_ne 59 55 dX9_read_52 rfl rfl ?_ ?_
      · refine r_iconst 60 0 dX9_read_59 rfl rfl ?_
        refine r_to [1, 2, 0] [(0, aR 160), (1, aI x1), (2, aI z1)] rfl ?_
        exact s_Ck_read_b60 P W x1 z1 0 G2
      · refine r_iconst 56 1 dX9_read_55 rfl rfl ?_
        refine r_goto 60 dX9_read_56 rfl ?_
        refine r_to [1, 2, 0] [(0, aR 160), (1, aI x1), (2, aI z1)] rfl ?_
        exact s_Ck_read_b60 P W x1 z1 1 G2
  · exact r_return dX9_read_28 rfl
theorem c_Ck_read (P W : Int) (x1 : Int) (G : St) : MG (MCk_read P W) [aR 160, aI x1] G (Ck_read x1 G) := MG.of plX9 (Nat.le_of_ble_eq_true rfl) (s_Ck_read P W x1 G)
theorem s_Ck_factor_b112 (P W : Int) (x3 : Int) (G : St) : SS (MCk_factor P W) some 112 [(0, aR 160), (3, aI x3)] [] G (Ck_factor_b112 x3 G) := by
  refine r_aload_n 113 0 dX9_factor_112 rfl rfl rfl ?_
  refine r_iconst 114 0 dX9_factor_113 rfl rfl ?_
  refine r_iconst 115 1 dX9_factor_114 rfl rfl ?_
  refine r_iload_n 116 1 dX9_factor_115 rfl rfl rfl ?_
  refine r_callvV 119 (Mc := MCk_push P W) (o := 160) (as := [aI 0, aI 1, aI x3]) (st := []) dX9_factor_116 rfl (c_Ck_push P W 0 1 x3 G) lkX9_196 (cmCk_push P W) rfl rfl rfl (fun _ => dsC_160 P W _) nn160 rfl (Nat.le_of_ble_eq_true rfl) (Nat.le_of_ble_eq_true rfl) (fun _ => rfl) rfl (fun z1 G2 => ?_)
  refine r_goto 674 dX9_factor_119 rfl ?_
  exact r_return dX9_factor_674 rfl
theorem s_Ck_factor_b122 (P W : Int) (x3 : Int) (G : St) : SS (MCk_factor P W) some 122 [(0, aR 160), (3, aI x3)] [] G (Ck_factor_b122 x3 G) := by
  refine r_aload_n 123 0 dX9_factor_122 rfl rfl rfl ?_
  refine r_iconst 124 1 dX9_factor_123 rfl rfl ?_
  refine r_iconst 125 1 dX9_factor_124 rfl rfl ?_
  refine r_iload_n 126 1 dX9_factor_125 rfl rfl rfl ?_
  refine r_callvV 129 (Mc := MCk_push P W) (o := 160) (as := [aI 1, aI 1, aI x3]) (st := []) dX9_factor_126 rfl (c_Ck_push P W 1 1 x3 G) lkX9_196 (cmCk_push P W) rfl rfl rfl (fun _ => dsC_160 P W _) nn160 rfl (Nat.le_of_ble_eq_true rfl) (Nat.le_of_ble_eq_true rfl) (fun _ => rfl) rfl (fun z3 G4 => ?_)
  refine r_goto 674 dX9_factor_129 rfl ?_
  exact r_return dX9_factor_674 rfl
theorem s_Ck_factor_b132 (P W : Int) (x1 : Int) (G : St) : SS (MCk_factor P W) some 132 [(0, aR 160), (1, aI x1)] [] G (Ck_factor_b132 x1 G) := by
  refine r_aload_n 133 0 dX9_factor_132 rfl rfl rfl ?_
  refine r_iload_n 134 1 dX9_factor_133 rfl rfl rfl ?_
  refine r_callvV 137 (Mc := MCk_read P W) (o := 160) (as := [aI x1]) (st := []) dX9_factor_134 rfl (c_Ck_read P W x1 G) lkX9_200 (cmCk_read P W) rfl rfl rfl (fun _ => dsC_160 P W _) nn160 rfl (Nat.le_of_ble_eq_true rfl) (Nat.le_of_ble_eq_true rfl) (fun _ => rfl) rfl (fun z5 G6 => ?_)
  refine r_goto 674 dX9_factor_137 rfl ?_
  exact r_return dX9_factor_674 rfl
theorem s_Ck_factor_b173 (P W : Int) (x3 : Int) (s0 : Int) (G : St) : SS (MCk_factor P W) some 173 [(3, aI x3)] [aI s0, aR 160] G (Ck_factor_b173 x3 s0 G) := by
  refine r_iload_n 174 0 dX9_factor_173 rfl rfl rfl ?_
  refine r_callvV 177 (Mc := MCk_need P W) (o := 160) (as := [aI s0, aI x3]) (st := []) dX9_factor_174 rfl (c_Ck_need P W s0 x3 G) lkX9_159 (cmCk_need P W) rfl rfl rfl (fun _ => dsC_160 P W _) nn160 rfl (Nat.le_of_ble_eq_true rfl) (Nat.le_of_ble_eq_true rfl) (fun _ => rfl) rfl (fun z9 G10 => ?_)
  refine r_goto 674 dX9_factor_177 rfl ?_
  exact r_return dX9_factor_674 rfl
theorem s_Ck_factor_b140 (P W : Int) (x2 : Int) (x3 : Int) (G : St) : SS (MCk_factor P W) some 140 [(0, aR 160), (2, aI x2), (3, aI x3)] [] G (Ck_factor_b140 x2 x3 G) := by
  refine r_aload_n 141 0 dX9_factor_140 rfl rfl rfl ?_
  refine r_iload_n 142 1 dX9_factor_141 rfl rfl rfl ?_
  refine r_iload_n 143 2 dX9_factor_142 rfl rfl rfl ?_
  refine r_callvI 146 (Mc := MCk_visible P W) (o := 160) (as := [aI x2, aI x3]) (st := []) dX9_factor_143 rfl (c_Ck_visible P W x2 x3 G) lkX9_180 (cmCk_visible P W) rfl rfl rfl (fun _ => dsC_160 P W _) nn160 rfl (Nat.le_of_ble_eq_true rfl) (Nat.le_of_ble_eq_true rfl) (fun _ => rfl) rfl (fun z7 G8 => ?_)
  refine r_istore 148 [(4, aI z7), (0, aR 160), (2, aI x2), (3, aI x3)] dX9_factor_146 rfl rfl rfl ?_
  refine r_iload 150 0 dX9_factor_148 rfl rfl ?_
  refine r_iconst 151 (-1) dX9_factor_150 rfl rfl ?_
  refine r_icmp_eq 674 154 dX9_factor_151 rfl rfl ?_ ?_
  · exact r_return dX9_factor_674 rfl
  · refine r_aload_n 155 1 dX9_factor_154 rfl rfl rfl ?_
    refine r_aload_n 156 1 dX9_factor_155 rfl rfl rfl ?_
    refine r_get 159 (aR 190) dX9_factor_156 fkX9_12 (fun _ => dsC_160 P W _) nn160 rfl rfl ?_
    refine r_get 162 (aR 194) dX9_factor_159 fkX9_189 (fun _ => dsC_190 P W _) nn190 rfl rfl ?_
    refine r_iload 164 0 dX9_factor_162 rfl rfl ?_
    refine r_iald 165 dX9_factor_164 (fun _ _ _ => dsC_194 P W _) (fun _ _ => nn194) rfl ?_
    refine SS.phi (fun VV_ => Ck_factor_b173 x3 VV_ G8) ?_
    refine r_if_le 172 168 dX9_factor_165 rfl rfl ?_ ?_
    · refine r_iconst 173 0 dX9_factor_172 rfl rfl ?_
      refine r_to [3] [(3, aI x3)] rfl ?_
      exact s_Ck_factor_b173 P W x3 0 G8
    · refine r_iconst 169 1 dX9_factor_168 rfl rfl ?_
      refine r_goto 173 dX9_factor_169 rfl ?_
      refine r_to [3] [(3, aI x3)] rfl ?_
      exact s_Ck_factor_b173 P W x3 1 G8
theorem s_Ck_factor_b200 (P W : Int) (x1 : Int) (x3 : Int) (s0 : Int) (G : St) : SS (MCk_factor P W) some 200 [(0, aR 160), (1, aI x1), (3, aI x3)] [aI s0, aR 160] G (Ck_factor_b200 x1 x3 s0 G) := by
  refine r_aload_n 201 0 dX9_factor_200 rfl rfl rfl ?_
  refine r_get 204 (aR 162) dX9_factor_201 fkX9_22 (fun _ => dsC_160 P W _) nn160 rfl rfl ?_
  refine r_aload_n 205 0 dX9_factor_204 rfl rfl rfl ?_
  refine r_get 208 (aI (G 160 6)) dX9_factor_205 fkX9_56 (fun _ => dsC_160 P W _) nn160 rfl rfl ?_
  refine r_iconst 209 1 dX9_factor_208 rfl rfl ?_
  refine r_isub 210 dX9_factor_209 rfl ?_
  refine r_iald 211 dX9_factor_210 (fun _ _ _ => dsC_162 P W _) (fun _ _ => nn162) rfl ?_
  refine r_callvV 214 (Mc := MCk_need P W) (o := 160) (as := [aI s0, aI (G 162 ((G 160 6) - 1))]) (st := []) dX9_factor_211 rfl (c_Ck_need P W s0 (G 162 ((G 160 6) - 1)) G) lkX9_159 (cmCk_need P W) rfl rfl rfl (fun _ => dsC_160 P W _) nn160 rfl (Nat.le_of_ble_eq_true rfl) (Nat.le_of_ble_eq_true rfl) (fun _ => rfl) rfl (fun z11 G12 => ?_)
  refine r_aload_n 215 0 dX9_factor_214 rfl rfl rfl ?_
  refine r_iload_n 216 1 dX9_factor_215 rfl rfl rfl ?_
  refine r_callvV 219 (Mc := MCk_index P W) (o := 160) (as := [aI x1]) (st := []) dX9_factor_216 rfl (c_Ck_index P W x1 G12) lkX9_163 (cmCk_index P W) rfl rfl rfl (fun _ => dsC_160 P W _) nn160 rfl (Nat.le_of_ble_eq_true rfl) (Nat.le_of_ble_eq_true rfl) (fun _ => rfl) rfl (fun z13 G14 => ?_)
  refine r_aload_n 220 0 dX9_factor_219 rfl rfl rfl ?_
  refine r_aload_n 221 0 dX9_factor_220 rfl rfl rfl ?_
  refine r_get 224 (aR 110) dX9_factor_221 fkX9_48 (fun _ => dsC_160 P W _) nn160 rfl rfl ?_
  refine r_get 227 (aR 114) dX9_factor_224 fkX9_143 (fun _ => dsC_110 P W _) nn110 rfl rfl ?_
  refine r_iload_n 228 1 dX9_factor_227 rfl rfl rfl ?_
  refine r_iald 229 dX9_factor_228 (fun _ _ _ => dsC_114 P W _) (fun _ _ => nn114) rfl ?_
  refine r_iconst 230 1 dX9_factor_229 rfl rfl ?_
  refine r_iand 231 dX9_factor_230 rfl ?_
  refine r_iconst 232 0 dX9_factor_231 rfl rfl ?_
  refine r_callvV 235 (Mc := MCk_become P W) (o := 160) (as := [aI (j_an (G14 114 x1) 1), aI 0]) (st := []) dX9_factor_232 rfl (c_Ck_become P W (j_an (G14 114 x1) 1) 0 G14) lkX9_203 (cmCk_become P W) rfl rfl rfl (fun _ => dsC_160 P W _) nn160 rfl (Nat.le_of_ble_eq_true rfl) (Nat.le_of_ble_eq_true rfl) (fun _ => rfl) rfl (fun z15 G16 => ?_)
  refine r_aload_n 236 0 dX9_factor_235 rfl rfl rfl ?_
  refine r_get 239 (aR 162) dX9_factor_236 fkX9_22 (fun _ => dsC_160 P W _) nn160 rfl rfl ?_
  refine r_aload_n 240 0 dX9_factor_239 rfl rfl rfl ?_
  refine r_get 243 (aI (G16 160 6)) dX9_factor_240 fkX9_56 (fun _ => dsC_160 P W _) nn160 rfl rfl ?_
  refine r_iconst 244 1 dX9_factor_243 rfl rfl ?_
  refine r_isub 245 dX9_factor_244 rfl ?_
  refine r_iload_n 246 2 dX9_factor_245 rfl rfl rfl ?_
  refine r_iast 247 dX9_factor_246 (fun _ _ _ => dsC_162 P W _) (fun _ _ => nn162) rfl ?_
  refine ss_tk (fun G17 => ?_)
  refine r_goto 674 dX9_factor_247 rfl ?_
  exact r_return dX9_factor_674 rfl
theorem s_Ck_factor_b180 (P W : Int) (x1 : Int) (x3 : Int) (G : St) : SS (MCk_factor P W) some 180 [(0, aR 160), (1, aI x1), (3, aI x3)] [] G (Ck_factor_b180 x1 x3 G) := by
  refine r_aload_n 181 0 dX9_factor_180 rfl rfl rfl ?_
  refine r_aload_n 182 0 dX9_factor_181 rfl rfl rfl ?_
  refine r_get 185 (aR 161) dX9_factor_182 fkX9_18 (fun _ => dsC_160 P W _) nn160 rfl rfl ?_
  refine r_aload_n 186 0 dX9_factor_185 rfl rfl rfl ?_
  refine r_get 189 (aI (G 160 6)) dX9_factor_186 fkX9_56 (fun _ => dsC_160 P W _) nn160 rfl rfl ?_
  refine r_iconst 190 1 dX9_factor_189 rfl rfl ?_
  refine r_isub 191 dX9_factor_190 rfl ?_
  refine r_iald 192 dX9_factor_191 (fun _ _ _ => dsC_161 P W _) (fun _ _ => nn161) rfl ?_
  refine SS.phi (fun VV_ => Ck_factor_b200 x1 x3 VV_ G) ?_
  refine r_if_ne 199 195 dX9_factor_192 rfl rfl ?_ ?_
  · refine r_iconst 200 0 dX9_factor_199 rfl rfl ?_
    exact s_Ck_factor_b200 P W x1 x3 0 G
  · refine r_iconst 196 1 dX9_factor_195 rfl rfl ?_
    refine r_goto 200 dX9_factor_196 rfl ?_
    exact s_Ck_factor_b200 P W x1 x3 1 G
theorem s_Ck_factor_b312 (P W : Int) (x1 : Int) (x3 : Int) (x5 : Int) (s0 : Int) (G : St) : SS (MCk_factor P W) some 312 [(0, aR 160), (1, aI x1), (3, aI x3), (5, aI x5)] [aI s0, aR 160] G (Ck_factor_b312 x1 x3 x5 s0 G) := by
  refine r_iload_n 313 2 dX9_factor_312 rfl rfl rfl ?_
  refine r_callvV 316 (Mc := MCk_need P W) (o := 160) (as := [aI s0, aI x3]) (st := []) dX9_factor_313 rfl (c_Ck_need P W s0 x3 G) lkX9_159 (cmCk_need P W) rfl rfl rfl (fun _ => dsC_160 P W _) nn160 rfl (Nat.le_of_ble_eq_true rfl) (Nat.le_of_ble_eq_true rfl) (fun _ => rfl) rfl (fun z20 G21 => ?_)
  refine r_aload_n 317 0 dX9_factor_316 rfl rfl rfl ?_
  refine r_get 320 (aR 110) dX9_factor_317 fkX9_48 (fun _ => dsC_160 P W _) nn160 rfl rfl ?_
  refine r_get 323 (aR 112) dX9_factor_320 fkX9_133 (fun _ => dsC_110 P W _) nn110 rfl rfl ?_
  refine r_iload_n 324 1 dX9_factor_323 rfl rfl rfl ?_
  refine r_aload_n 325 0 dX9_factor_324 rfl rfl rfl ?_
  refine r_get 328 (aR 190) dX9_factor_325 fkX9_12 (fun _ => dsC_160 P W _) nn160 rfl rfl ?_
  refine r_get 331 (aR 195) dX9_factor_328 fkX9_193 (fun _ => dsC_190 P W _) nn190 rfl rfl ?_
  refine r_iload 333 3 dX9_factor_331 rfl rfl ?_
  refine r_iald 334 dX9_factor_333 (fun _ _ _ => dsC_195 P W _) (fun _ _ => nn195) rfl ?_
  refine r_iast 335 dX9_factor_334 (fun _ _ _ => dsC_112 P W _) (fun _ _ => nn112) rfl ?_
  refine ss_tk (fun G22 => ?_)
  refine r_goto 674 dX9_factor_335 rfl ?_
  exact r_return dX9_factor_674 rfl
theorem s_Ck_factor_b250 (P W : Int) (x1 : Int) (x2 : Int) (x3 : Int) (G : St) : SS (MCk_factor P W) some 250 [(0, aR 160), (1, aI x1), (2, aI x2), (3, aI x3)] [] G (Ck_factor_b250 x1 x2 x3 G) := by
  refine r_aload_n 251 0 dX9_factor_250 rfl rfl rfl ?_
  refine r_iload_n 252 2 dX9_factor_251 rfl rfl rfl ?_
  refine r_iload_n 253 3 dX9_factor_252 rfl rfl rfl ?_
  refine r_callvI 256 (Mc := MCk_visible P W) (o := 160) (as := [aI x2, aI x3]) (st := []) dX9_factor_253 rfl (c_Ck_visible P W x2 x3 G) lkX9_180 (cmCk_visible P W) rfl rfl rfl (fun _ => dsC_160 P W _) nn160 rfl (Nat.le_of_ble_eq_true rfl) (Nat.le_of_ble_eq_true rfl) (fun _ => rfl) rfl (fun z18 G19 => ?_)
  refine r_istore 258 [(5, aI z18), (0, aR 160), (1, aI x1), (2, aI x2), (3, aI x3)] dX9_factor_256 rfl rfl rfl ?_
  refine r_iload 260 0 dX9_factor_258 rfl rfl ?_
  refine r_iconst 261 (-1) dX9_factor_260 rfl rfl ?_
  refine r_icmp_ne 265 264 dX9_factor_261 rfl rfl ?_ ?_
  · refine r_aload_n 266 1 dX9_factor_265 rfl rfl rfl ?_
    refine r_aload_n 267 1 dX9_factor_266 rfl rfl rfl ?_
    refine r_get 270 (aR 190) dX9_factor_267 fkX9_12 (fun _ => dsC_160 P W _) nn160 rfl rfl ?_
    refine r_get 273 (aR 192) dX9_factor_270 fkX9_186 (fun _ => dsC_190 P W _) nn190 rfl rfl ?_
    refine r_iload 275 0 dX9_factor_273 rfl rfl ?_
    refine r_iald 276 dX9_factor_275 (fun _ _ _ => dsC_192 P W _) (fun _ _ => nn192) rfl ?_
    refine r_iconst 277 4 dX9_factor_276 rfl rfl ?_
    refine r_icmp_ne 311 280 dX9_factor_277 rfl rfl ?_ ?_
    · refine r_iconst 312 0 dX9_factor_311 rfl rfl ?_
      refine r_to [1, 2, 4, 0] [(0, aR 160), (1, aI x1), (3, aI x3), (5, aI z18)] rfl ?_
      exact s_Ck_factor_b312 P W x1 x3 z18 0 G19
    · refine r_aload_n 281 1 dX9_factor_280 rfl rfl rfl ?_
      refine r_get 284 (aR 167) dX9_factor_281 fkX9_38 (fun _ => dsC_160 P W _) nn160 rfl rfl ?_
      refine r_aload_n 285 1 dX9_factor_284 rfl rfl rfl ?_
      refine r_get 288 (aR 190) dX9_factor_285 fkX9_12 (fun _ => dsC_160 P W _) nn160 rfl rfl ?_
      refine r_get 291 (aR 195) dX9_factor_288 fkX9_193 (fun _ => dsC_190 P W _) nn190 rfl rfl ?_
      refine r_iload 293 0 dX9_factor_291 rfl rfl ?_
      refine r_iald 294 dX9_factor_293 (fun _ _ _ => dsC_195 P W _) (fun _ _ => nn195) rfl ?_
      refine r_iald 295 dX9_factor_294 (fun _ _ _ => dsC_167 P W _) (fun _ _ => nn167) rfl ?_
      refine r_aload_n 296 1 dX9_factor_295 rfl rfl rfl ?_
      refine r_get 299 (aR 110) dX9_factor_296 fkX9_48 (fun _ => dsC_160 P W _) nn160 rfl rfl ?_
      refine r_get 302 (aR 114) dX9_factor_299 fkX9_143 (fun _ => dsC_110 P W _) nn110 rfl rfl ?_
      refine r_iload_n 303 2 dX9_factor_302 rfl rfl rfl ?_
      refine r_iald 304 dX9_factor_303 (fun _ _ _ => dsC_114 P W _) (fun _ _ => nn114) rfl ?_
      refine SS.phi (fun VV_ => Ck_factor_b312 x1 x3 z18 VV_ G19) ?_
      refine r_icmp_ne 311 307 dX9_factor_304 rfl rfl ?_ ?_
      · refine r_iconst 312 0 dX9_factor_311 rfl rfl ?_
        refine r_to [1, 2, 4, 0] [(0, aR 160), (1, aI x1), (3, aI x3), (5, aI z18)] rfl ?_
        exact s_Ck_factor_b312 P W x1 x3 z18 0 G19
      · refine r_iconst 308 1 dX9_factor_307 rfl rfl ?_
        refine r_goto 312 dX9_factor_308 rfl ?_
        refine r_to [1, 2, 4, 0] [(0, aR 160), (1, aI x1), (3, aI x3), (5, aI z18)] rfl ?_
        exact s_Ck_factor_b312 P W x1 x3 z18 1 G19
  · exact r_return dX9_factor_264 rfl
theorem s_Ck_factor_b402 (P W : Int) (s0 : Int) (G : St) : SS (MCk_factor P W) some 402 [(0, aR 160)] [aI s0, aR 160] G (Ck_factor_b402 s0 G) := by
  refine r_aload_n 403 0 dX9_factor_402 rfl rfl rfl ?_
  refine r_get 406 (aR 162) dX9_factor_403 fkX9_22 (fun _ => dsC_160 P W _) nn160 rfl rfl ?_
  refine r_aload_n 407 0 dX9_factor_406 rfl rfl rfl ?_
  refine r_get 410 (aI (G 160 6)) dX9_factor_407 fkX9_56 (fun _ => dsC_160 P W _) nn160 rfl rfl ?_
  refine r_iconst 411 1 dX9_factor_410 rfl rfl ?_
  refine r_isub 412 dX9_factor_411 rfl ?_
  refine r_iald 413 dX9_factor_412 (fun _ _ _ => dsC_162 P W _) (fun _ _ => nn162) rfl ?_
  refine r_callvV 416 (Mc := MCk_need P W) (o := 160) (as := [aI s0, aI (G 162 ((G 160 6) - 1))]) (st := []) dX9_factor_413 rfl (c_Ck_need P W s0 (G 162 ((G 160 6) - 1)) G) lkX9_159 (cmCk_need P W) rfl rfl rfl (fun _ => dsC_160 P W _) nn160 rfl (Nat.le_of_ble_eq_true rfl) (Nat.le_of_ble_eq_true rfl) (fun _ => rfl) rfl (fun z25 G26 => ?_)
  refine r_goto 674 dX9_factor_416 rfl ?_
  exact r_return dX9_factor_674 rfl
theorem s_Ck_factor_b338 (P W : Int) (x1 : Int) (x2 : Int) (G : St) : SS (MCk_factor P W) some 338 [(0, aR 160), (1, aI x1), (2, aI x2)] [] G (Ck_factor_b338 x1 x2 G) := by
  refine r_aload_n 339 0 dX9_factor_338 rfl rfl rfl ?_
  refine r_get 342 (aR 190) dX9_factor_339 fkX9_12 (fun _ => dsC_160 P W _) nn160 rfl rfl ?_
  refine r_get 345 (aR 195) dX9_factor_342 fkX9_193 (fun _ => dsC_190 P W _) nn190 rfl rfl ?_
  refine r_aload_n 346 0 dX9_factor_345 rfl rfl rfl ?_
  refine r_get 349 (aR 190) dX9_factor_346 fkX9_12 (fun _ => dsC_160 P W _) nn160 rfl rfl ?_
  refine r_iload_n 350 2 dX9_factor_349 rfl rfl rfl ?_
  refine r_aload_n 351 0 dX9_factor_350 rfl rfl rfl ?_
  refine r_get 354 (aI (G 160 13)) dX9_factor_351 fkX9_65 (fun _ => dsC_160 P W _) nn160 rfl rfl ?_
  refine r_callvI 357 (Mc := MSc_find P W) (o := 190) (as := [aI x2, aI (G 160 13)]) (st := [aR 195]) dX9_factor_354 rfl (c_Sc_find P W x2 (G 160 13) G) lkX9_68 (cmSc_find P W) rfl rfl rfl (fun _ => dsC_190 P W _) nn190 rfl (Nat.le_of_ble_eq_true rfl) (Nat.le_of_ble_eq_true rfl) (fun _ => rfl) rfl (fun z23 G24 => ?_)
  refine r_iald 358 dX9_factor_357 (fun _ _ _ => dsC_195 P W _) (fun _ _ => nn195) rfl ?_
  refine r_istore 360 [(6, aI (G24 195 z23)), (0, aR 160), (1, aI x1), (2, aI x2)] dX9_factor_358 rfl rfl rfl ?_
  refine r_aload_n 361 1 dX9_factor_360 rfl rfl rfl ?_
  refine r_aload_n 362 1 dX9_factor_361 rfl rfl rfl ?_
  refine r_get 365 (aR 161) dX9_factor_362 fkX9_18 (fun _ => dsC_160 P W _) nn160 rfl rfl ?_
  refine r_aload_n 366 1 dX9_factor_365 rfl rfl rfl ?_
  refine r_get 369 (aI (G24 160 6)) dX9_factor_366 fkX9_56 (fun _ => dsC_160 P W _) nn160 rfl rfl ?_
  refine r_iconst 370 1 dX9_factor_369 rfl rfl ?_
  refine r_isub 371 dX9_factor_370 rfl ?_
  refine r_iald 372 dX9_factor_371 (fun _ _ _ => dsC_161 P W _) (fun _ _ => nn161) rfl ?_
  refine r_aload_n 373 1 dX9_factor_372 rfl rfl rfl ?_
  refine r_get 376 (aR 168) dX9_factor_373 fkX9_41 (fun _ => dsC_160 P W _) nn160 rfl rfl ?_
  refine r_aload_n 377 1 dX9_factor_376 rfl rfl rfl ?_
  refine r_get 380 (aR 166) dX9_factor_377 fkX9_35 (fun _ => dsC_160 P W _) nn160 rfl rfl ?_
  refine r_iload 382 0 dX9_factor_380 rfl rfl ?_
  refine r_iald 383 dX9_factor_382 (fun _ _ _ => dsC_166 P W _) (fun _ _ => nn166) rfl ?_
  refine r_aload_n 384 1 dX9_factor_383 rfl rfl rfl ?_
  refine r_get 387 (aR 110) dX9_factor_384 fkX9_48 (fun _ => dsC_160 P W _) nn160 rfl rfl ?_
  refine r_get 390 (aR 114) dX9_factor_387 fkX9_143 (fun _ => dsC_110 P W _) nn110 rfl rfl ?_
  refine r_iload_n 391 2 dX9_factor_390 rfl rfl rfl ?_
  refine r_iald 392 dX9_factor_391 (fun _ _ _ => dsC_114 P W _) (fun _ _ => nn114) rfl ?_
  refine r_iadd 393 dX9_factor_392 rfl ?_
  refine r_iald 394 dX9_factor_393 (fun _ _ _ => dsC_168 P W _) (fun _ _ => nn168) rfl ?_
  refine SS.phi (fun VV_ => Ck_factor_b402 VV_ G24) ?_
  refine r_icmp_ne 401 397 dX9_factor_394 rfl rfl ?_ ?_
  · refine r_iconst 402 0 dX9_factor_401 rfl rfl ?_
    refine r_to [1] [(0, aR 160)] rfl ?_
    exact s_Ck_factor_b402 P W 0 G24
  · refine r_iconst 398 1 dX9_factor_397 rfl rfl ?_
    refine r_goto 402 dX9_factor_398 rfl ?_
    refine r_to [1] [(0, aR 160)] rfl ?_
    exact s_Ck_factor_b402 P W 1 G24
theorem s_Ck_factor_b419 (P W : Int) (x1 : Int) (G : St) : SS (MCk_factor P W) some 419 [(0, aR 160), (1, aI x1)] [] G (Ck_factor_b419 x1 G) := by
  refine r_aload_n 420 0 dX9_factor_419 rfl rfl rfl ?_
  refine r_iload_n 421 1 dX9_factor_420 rfl rfl rfl ?_
  refine r_callvV 424 (Mc := MCk_endCall P W) (o := 160) (as := [aI x1]) (st := []) dX9_factor_421 rfl (c_Ck_endCall P W x1 G) lkX9_207 (cmCk_endCall P W) rfl rfl rfl (fun _ => dsC_160 P W _) nn160 rfl (Nat.le_of_ble_eq_true rfl) (Nat.le_of_ble_eq_true rfl) (fun _ => rfl) rfl (fun z27 G28 => ?_)
  refine r_goto 674 dX9_factor_424 rfl ?_
  exact r_return dX9_factor_674 rfl
theorem s_Ck_factor_b448 (P W : Int) (x3 : Int) (s0 : Int) (G : St) : SS (MCk_factor P W) some 448 [(0, aR 160), (3, aI x3)] [aI s0, aR 160] G (Ck_factor_b448 x3 s0 G) := by
  refine r_aload_n 449 0 dX9_factor_448 rfl rfl rfl ?_
  refine r_get 452 (aR 162) dX9_factor_449 fkX9_22 (fun _ => dsC_160 P W _) nn160 rfl rfl ?_
  refine r_aload_n 453 0 dX9_factor_452 rfl rfl rfl ?_
  refine r_get 456 (aI (G 160 6)) dX9_factor_453 fkX9_56 (fun _ => dsC_160 P W _) nn160 rfl rfl ?_
  refine r_iconst 457 1 dX9_factor_456 rfl rfl ?_
  refine r_isub 458 dX9_factor_457 rfl ?_
  refine r_iald 459 dX9_factor_458 (fun _ _ _ => dsC_162 P W _) (fun _ _ => nn162) rfl ?_
  refine r_callvV 462 (Mc := MCk_need P W) (o := 160) (as := [aI s0, aI (G 162 ((G 160 6) - 1))]) (st := []) dX9_factor_459 rfl (c_Ck_need P W s0 (G 162 ((G 160 6) - 1)) G) lkX9_159 (cmCk_need P W) rfl rfl rfl (fun _ => dsC_160 P W _) nn160 rfl (Nat.le_of_ble_eq_true rfl) (Nat.le_of_ble_eq_true rfl) (fun _ => rfl) rfl (fun z29 G30 => ?_)
  refine r_aload_n 463 0 dX9_factor_462 rfl rfl rfl ?_
  refine r_iconst 464 0 dX9_factor_463 rfl rfl ?_
  refine r_aload_n 465 0 dX9_factor_464 rfl rfl rfl ?_
  refine r_get 468 (aR 163) dX9_factor_465 fkX9_25 (fun _ => dsC_160 P W _) nn160 rfl rfl ?_
  refine r_aload_n 469 0 dX9_factor_468 rfl rfl rfl ?_
  refine r_get 472 (aI (G30 160 6)) dX9_factor_469 fkX9_56 (fun _ => dsC_160 P W _) nn160 rfl rfl ?_
  refine r_iconst 473 1 dX9_factor_472 rfl rfl ?_
  refine r_isub 474 dX9_factor_473 rfl ?_
  refine r_zald 475 dX9_factor_474 (fun _ _ _ => dsC_163 P W _) (fun _ _ => nn163) rfl ?_
  refine r_callvV 478 (Mc := MCk_become P W) (o := 160) (as := [aI 0, aI (G30 163 ((G30 160 6) - 1))]) (st := []) dX9_factor_475 rfl (c_Ck_become P W 0 (G30 163 ((G30 160 6) - 1)) G30) lkX9_203 (cmCk_become P W) rfl rfl rfl (fun _ => dsC_160 P W _) nn160 rfl (Nat.le_of_ble_eq_true rfl) (Nat.le_of_ble_eq_true rfl) (fun _ => rfl) rfl (fun z31 G32 => ?_)
  refine r_aload_n 479 0 dX9_factor_478 rfl rfl rfl ?_
  refine r_get 482 (aR 162) dX9_factor_479 fkX9_22 (fun _ => dsC_160 P W _) nn160 rfl rfl ?_
  refine r_aload_n 483 0 dX9_factor_482 rfl rfl rfl ?_
  refine r_get 486 (aI (G32 160 6)) dX9_factor_483 fkX9_56 (fun _ => dsC_160 P W _) nn160 rfl rfl ?_
  refine r_iconst 487 1 dX9_factor_486 rfl rfl ?_
  refine r_isub 488 dX9_factor_487 rfl ?_
  refine r_iload_n 489 1 dX9_factor_488 rfl rfl rfl ?_
  refine r_iast 490 dX9_factor_489 (fun _ _ _ => dsC_162 P W _) (fun _ _ => nn162) rfl ?_
  refine ss_tk (fun G33 => ?_)
  refine r_goto 674 dX9_factor_490 rfl ?_
  exact r_return dX9_factor_674 rfl
theorem s_Ck_factor_b427 (P W : Int) (x3 : Int) (G : St) : SS (MCk_factor P W) some 427 [(0, aR 160), (3, aI x3)] [] G (Ck_factor_b427 x3 G) := by
  refine r_aload_n 428 0 dX9_factor_427 rfl rfl rfl ?_
  refine r_aload_n 429 0 dX9_factor_428 rfl rfl rfl ?_
  refine r_get 432 (aR 161) dX9_factor_429 fkX9_18 (fun _ => dsC_160 P W _) nn160 rfl rfl ?_
  refine r_aload_n 433 0 dX9_factor_432 rfl rfl rfl ?_
  refine r_get 436 (aI (G 160 6)) dX9_factor_433 fkX9_56 (fun _ => dsC_160 P W _) nn160 rfl rfl ?_
  refine r_iconst 437 1 dX9_factor_436 rfl rfl ?_
  refine r_isub 438 dX9_factor_437 rfl ?_
  refine r_iald 439 dX9_factor_438 (fun _ _ _ => dsC_161 P W _) (fun _ _ => nn161) rfl ?_
  refine r_iconst 440 1 dX9_factor_439 rfl rfl ?_
  refine SS.phi (fun VV_ => Ck_factor_b448 x3 VV_ G) ?_
  refine r_icmp_ne 447 443 dX9_factor_440 rfl rfl ?_ ?_
  · refine r_iconst 448 0 dX9_factor_447 rfl rfl ?_
    exact s_Ck_factor_b448 P W x3 0 G
  · refine r_iconst 444 1 dX9_factor_443 rfl rfl ?_
    refine r_goto 448 dX9_factor_444 rfl ?_
    exact s_Ck_factor_b448 P W x3 1 G
theorem s_Ck_factor_b513 (P W : Int) (s0 : Int) (G : St) : SS (MCk_factor P W) some 513 [(0, aR 160)] [aI s0, aR 160] G (Ck_factor_b513 s0 G) := by
  refine r_aload_n 514 0 dX9_factor_513 rfl rfl rfl ?_
  refine r_get 517 (aR 162) dX9_factor_514 fkX9_22 (fun _ => dsC_160 P W _) nn160 rfl rfl ?_
  refine r_aload_n 518 0 dX9_factor_517 rfl rfl rfl ?_
  refine r_get 521 (aI (G 160 6)) dX9_factor_518 fkX9_56 (fun _ => dsC_160 P W _) nn160 rfl rfl ?_
  refine r_iconst 522 1 dX9_factor_521 rfl rfl ?_
  refine r_isub 523 dX9_factor_522 rfl ?_
  refine r_iald 524 dX9_factor_523 (fun _ _ _ => dsC_162 P W _) (fun _ _ => nn162) rfl ?_
  refine r_callvV 527 (Mc := MCk_need P W) (o := 160) (as := [aI s0, aI (G 162 ((G 160 6) - 1))]) (st := []) dX9_factor_524 rfl (c_Ck_need P W s0 (G 162 ((G 160 6) - 1)) G) lkX9_159 (cmCk_need P W) rfl rfl rfl (fun _ => dsC_160 P W _) nn160 rfl (Nat.le_of_ble_eq_true rfl) (Nat.le_of_ble_eq_true rfl) (fun _ => rfl) rfl (fun z34 G35 => ?_)
  refine r_goto 674 dX9_factor_527 rfl ?_
  exact r_return dX9_factor_674 rfl
theorem s_Ck_factor_b493 (P W : Int) (G : St) : SS (MCk_factor P W) some 493 [(0, aR 160)] [] G (Ck_factor_b493 G) := by
  refine r_aload_n 494 0 dX9_factor_493 rfl rfl rfl ?_
  refine r_aload_n 495 0 dX9_factor_494 rfl rfl rfl ?_
  refine r_get 498 (aR 161) dX9_factor_495 fkX9_18 (fun _ => dsC_160 P W _) nn160 rfl rfl ?_
  refine r_aload_n 499 0 dX9_factor_498 rfl rfl rfl ?_
  refine r_get 502 (aI (G 160 6)) dX9_factor_499 fkX9_56 (fun _ => dsC_160 P W _) nn160 rfl rfl ?_
  refine r_iconst 503 1 dX9_factor_502 rfl rfl ?_
  refine r_isub 504 dX9_factor_503 rfl ?_
  refine r_iald 505 dX9_factor_504 (fun _ _ _ => dsC_161 P W _) (fun _ _ => nn161) rfl ?_
  refine SS.phi (fun VV_ => Ck_factor_b513 VV_ G) ?_
  refine r_if_ne 512 508 dX9_factor_505 rfl rfl ?_ ?_
  · refine r_iconst 513 0 dX9_factor_512 rfl rfl ?_
    exact s_Ck_factor_b513 P W 0 G
  · refine r_iconst 509 1 dX9_factor_508 rfl rfl ?_
    refine r_goto 513 dX9_factor_509 rfl ?_
    exact s_Ck_factor_b513 P W 1 G
theorem s_Ck_factor_b598 (P W : Int) (x1 : Int) (x3 : Int) (G : St) : SS (MCk_factor P W) some 598 [(0, aR 160), (1, aI x1), (3, aI x3)] [] G (Ck_factor_b598 x1 x3 G) := by
  refine r_aload_n 599 0 dX9_factor_598 rfl rfl rfl ?_
  refine r_get 602 (aR 110) dX9_factor_599 fkX9_48 (fun _ => dsC_160 P W _) nn160 rfl rfl ?_
  refine r_get 605 (aR 114) dX9_factor_602 fkX9_143 (fun _ => dsC_110 P W _) nn110 rfl rfl ?_
  refine r_iload_n 606 1 dX9_factor_605 rfl rfl rfl ?_
  refine r_aload_n 607 0 dX9_factor_606 rfl rfl rfl ?_
  refine r_get 610 (aR 162) dX9_factor_607 fkX9_22 (fun _ => dsC_160 P W _) nn160 rfl rfl ?_
  refine r_aload_n 611 0 dX9_factor_610 rfl rfl rfl ?_
  refine r_get 614 (aI (G 160 6)) dX9_factor_611 fkX9_56 (fun _ => dsC_160 P W _) nn160 rfl rfl ?_
  refine r_iconst 615 1 dX9_factor_614 rfl rfl ?_
  refine r_isub 616 dX9_factor_615 rfl ?_
  refine r_iald 617 dX9_factor_616 (fun _ _ _ => dsC_162 P W _) (fun _ _ => nn162) rfl ?_
  refine r_iast 618 dX9_factor_617 (fun _ _ _ => dsC_114 P W _) (fun _ _ => nn114) rfl ?_
  refine ss_tk (fun G38 => ?_)
  refine r_aload_n 619 0 dX9_factor_618 rfl rfl rfl ?_
  refine r_dup 620 dX9_factor_619 rfl rfl ?_
  refine r_get 623 (aI (G38 160 6)) dX9_factor_620 fkX9_56 (fun _ => dsC_160 P W _) nn160 rfl rfl ?_
  refine r_iconst 624 1 dX9_factor_623 rfl rfl ?_
  refine r_isub 625 dX9_factor_624 rfl ?_
  refine r_putI 628 dX9_factor_625 fkX9_56 (fun _ => dsC_160 P W _) nn160 rfl rfl ?_
  refine ss_tk (fun G39 => ?_)
  refine r_aload_n 629 0 dX9_factor_628 rfl rfl rfl ?_
  refine r_iconst 630 1 dX9_factor_629 rfl rfl ?_
  refine r_aload_n 631 0 dX9_factor_630 rfl rfl rfl ?_
  refine r_get 634 (aR 163) dX9_factor_631 fkX9_25 (fun _ => dsC_160 P W _) nn160 rfl rfl ?_
  refine r_aload_n 635 0 dX9_factor_634 rfl rfl rfl ?_
  refine r_get 638 (aI (G39 160 6)) dX9_factor_635 fkX9_56 (fun _ => dsC_160 P W _) nn160 rfl rfl ?_
  refine r_iconst 639 1 dX9_factor_638 rfl rfl ?_
  refine r_isub 640 dX9_factor_639 rfl ?_
  refine r_zald 641 dX9_factor_640 (fun _ _ _ => dsC_163 P W _) (fun _ _ => nn163) rfl ?_
  refine r_callvV 644 (Mc := MCk_become P W) (o := 160) (as := [aI 1, aI (G39 163 ((G39 160 6) - 1))]) (st := []) dX9_factor_641 rfl (c_Ck_become P W 1 (G39 163 ((G39 160 6) - 1)) G39) lkX9_203 (cmCk_become P W) rfl rfl rfl (fun _ => dsC_160 P W _) nn160 rfl (Nat.le_of_ble_eq_true rfl) (Nat.le_of_ble_eq_true rfl) (fun _ => rfl) rfl (fun z40 G41 => ?_)
  refine r_aload_n 645 0 dX9_factor_644 rfl rfl rfl ?_
  refine r_get 648 (aR 162) dX9_factor_645 fkX9_22 (fun _ => dsC_160 P W _) nn160 rfl rfl ?_
  refine r_aload_n 649 0 dX9_factor_648 rfl rfl rfl ?_
  refine r_get 652 (aI (G41 160 6)) dX9_factor_649 fkX9_56 (fun _ => dsC_160 P W _) nn160 rfl rfl ?_
  refine r_iconst 653 1 dX9_factor_652 rfl rfl ?_
  refine r_isub 654 dX9_factor_653 rfl ?_
  refine r_iload_n 655 2 dX9_factor_654 rfl rfl rfl ?_
  refine r_iast 656 dX9_factor_655 (fun _ _ _ => dsC_162 P W _) (fun _ _ => nn162) rfl ?_
  refine ss_tk (fun G42 => ?_)
  refine r_goto 674 dX9_factor_656 rfl ?_
  exact r_return dX9_factor_674 rfl
theorem s_Ck_factor_b550 (P W : Int) (x1 : Int) (x3 : Int) (s0 : Int) (G : St) : SS (MCk_factor P W) some 550 [(0, aR 160), (1, aI x1), (3, aI x3)] [aI s0, aR 160] G (Ck_factor_b550 x1 x3 s0 G) := by
  refine r_aload_n 551 0 dX9_factor_550 rfl rfl rfl ?_
  refine r_get 554 (aR 162) dX9_factor_551 fkX9_22 (fun _ => dsC_160 P W _) nn160 rfl rfl ?_
  refine r_aload_n 555 0 dX9_factor_554 rfl rfl rfl ?_
  refine r_get 558 (aI (G 160 6)) dX9_factor_555 fkX9_56 (fun _ => dsC_160 P W _) nn160 rfl rfl ?_
  refine r_iconst 559 1 dX9_factor_558 rfl rfl ?_
  refine r_isub 560 dX9_factor_559 rfl ?_
  refine r_iald 561 dX9_factor_560 (fun _ _ _ => dsC_162 P W _) (fun _ _ => nn162) rfl ?_
  refine r_callvV 564 (Mc := MCk_need P W) (o := 160) (as := [aI s0, aI (G 162 ((G 160 6) - 1))]) (st := []) dX9_factor_561 rfl (c_Ck_need P W s0 (G 162 ((G 160 6) - 1)) G) lkX9_159 (cmCk_need P W) rfl rfl rfl (fun _ => dsC_160 P W _) nn160 rfl (Nat.le_of_ble_eq_true rfl) (Nat.le_of_ble_eq_true rfl) (fun _ => rfl) rfl (fun z36 G37 => ?_)
  refine r_aload_n 565 0 dX9_factor_564 rfl rfl rfl ?_
  refine r_get 568 (aR 163) dX9_factor_565 fkX9_25 (fun _ => dsC_160 P W _) nn160 rfl rfl ?_
  refine r_aload_n 569 0 dX9_factor_568 rfl rfl rfl ?_
  refine r_get 572 (aI (G37 160 6)) dX9_factor_569 fkX9_56 (fun _ => dsC_160 P W _) nn160 rfl rfl ?_
  refine r_iconst 573 1 dX9_factor_572 rfl rfl ?_
  refine r_isub 574 dX9_factor_573 rfl ?_
  refine r_zald 575 dX9_factor_574 (fun _ _ _ => dsC_163 P W _) (fun _ _ => nn163) rfl ?_
  refine r_if_ne 598 578 dX9_factor_575 rfl rfl ?_ ?_
  · exact s_Ck_factor_b598 P W x1 x3 G37
  · refine r_aload_n 579 0 dX9_factor_578 rfl rfl rfl ?_
    refine r_get 582 (aR 130) dX9_factor_579 fkX9_52 (fun _ => dsC_160 P W _) nn160 rfl rfl ?_
    refine r_bipush 584 6 dX9_factor_582 rfl rfl ?_
    refine r_aload_n 585 0 dX9_factor_584 rfl rfl rfl ?_
    refine r_get 588 (aR 162) dX9_factor_585 fkX9_22 (fun _ => dsC_160 P W _) nn160 rfl rfl ?_
    refine r_aload_n 589 0 dX9_factor_588 rfl rfl rfl ?_
    refine r_get 592 (aI (G37 160 6)) dX9_factor_589 fkX9_56 (fun _ => dsC_160 P W _) nn160 rfl rfl ?_
    refine r_iconst 593 1 dX9_factor_592 rfl rfl ?_
    refine r_isub 594 dX9_factor_593 rfl ?_
    refine r_iald 595 dX9_factor_594 (fun _ _ _ => dsC_162 P W _) (fun _ _ => nn162) rfl ?_
    refine r_callvV 598 (Mc := MFt_set P W) (o := 130) (as := [aI 6, aI (G37 162 ((G37 160 6) - 1))]) (st := []) dX9_factor_595 rfl (c_Ft_set P W 6 (G37 162 ((G37 160 6) - 1)) G37) lkX9_59 (cmFt_set P W) rfl rfl rfl (fun _ => dsC_130 P W _) nn130 rfl (Nat.le_of_ble_eq_true rfl) (Nat.le_of_ble_eq_true rfl) (fun _ => rfl) rfl (fun z43 G44 => ?_)
    exact s_Ck_factor_b598 P W x1 x3 G44
theorem s_Ck_factor_b530 (P W : Int) (x1 : Int) (x3 : Int) (G : St) : SS (MCk_factor P W) some 530 [(0, aR 160), (1, aI x1), (3, aI x3)] [] G (Ck_factor_b530 x1 x3 G) := by
  refine r_aload_n 531 0 dX9_factor_530 rfl rfl rfl ?_
  refine r_aload_n 532 0 dX9_factor_531 rfl rfl rfl ?_
  refine r_get 535 (aR 161) dX9_factor_532 fkX9_18 (fun _ => dsC_160 P W _) nn160 rfl rfl ?_
  refine r_aload_n 536 0 dX9_factor_535 rfl rfl rfl ?_
  refine r_get 539 (aI (G 160 6)) dX9_factor_536 fkX9_56 (fun _ => dsC_160 P W _) nn160 rfl rfl ?_
  refine r_iconst 540 1 dX9_factor_539 rfl rfl ?_
  refine r_isub 541 dX9_factor_540 rfl ?_
  refine r_iald 542 dX9_factor_541 (fun _ _ _ => dsC_161 P W _) (fun _ _ => nn161) rfl ?_
  refine SS.phi (fun VV_ => Ck_factor_b550 x1 x3 VV_ G) ?_
  refine r_if_ne 549 545 dX9_factor_542 rfl rfl ?_ ?_
  · refine r_iconst 550 0 dX9_factor_549 rfl rfl ?_
    exact s_Ck_factor_b550 P W x1 x3 0 G
  · refine r_iconst 546 1 dX9_factor_545 rfl rfl ?_
    refine r_goto 550 dX9_factor_546 rfl ?_
    exact s_Ck_factor_b550 P W x1 x3 1 G
theorem s_Ck_factor_b659 (P W : Int) (x3 : Int) (G : St) : SS (MCk_factor P W) some 659 [(0, aR 160), (3, aI x3)] [] G (Ck_factor_b659 x3 G) := by
  refine r_aload_n 660 0 dX9_factor_659 rfl rfl rfl ?_
  refine r_get 663 (aR 162) dX9_factor_660 fkX9_22 (fun _ => dsC_160 P W _) nn160 rfl rfl ?_
  refine r_aload_n 664 0 dX9_factor_663 rfl rfl rfl ?_
  refine r_get 667 (aI (G 160 6)) dX9_factor_664 fkX9_56 (fun _ => dsC_160 P W _) nn160 rfl rfl ?_
  refine r_iconst 668 1 dX9_factor_667 rfl rfl ?_
  refine r_isub 669 dX9_factor_668 rfl ?_
  refine r_iload_n 670 1 dX9_factor_669 rfl rfl rfl ?_
  refine r_iast 671 dX9_factor_670 (fun _ _ _ => dsC_162 P W _) (fun _ _ => nn162) rfl ?_
  refine ss_tk (fun G45 => ?_)
  refine r_goto 674 dX9_factor_671 rfl ?_
  exact r_return dX9_factor_674 rfl
theorem s_Ck_factor (P W : Int) (x1 : Int) (G : St) : SS (MCk_factor P W) some 0 [(0, aR 160), (1, aI x1)] [] G (Ck_factor x1 G) := by
  refine r_aload_n 1 0 dX9_factor_0 rfl rfl rfl ?_
  refine r_get 4 (aR 110) dX9_factor_1 fkX9_48 (fun _ => dsC_160 P W _) nn160 rfl rfl ?_
  refine r_get 7 (aR 112) dX9_factor_4 fkX9_133 (fun _ => dsC_110 P W _) nn110 rfl rfl ?_
  refine r_iload_n 8 1 dX9_factor_7 rfl rfl rfl ?_
  refine r_iald 9 dX9_factor_8 (fun _ _ _ => dsC_112 P W _) (fun _ _ => nn112) rfl ?_
  refine r_istore_n 10 [(2, aI (G 112 x1)), (0, aR 160), (1, aI x1)] dX9_factor_9 rfl rfl rfl rfl ?_
  refine r_aload_n 11 1 dX9_factor_10 rfl rfl rfl ?_
  refine r_get 14 (aR 110) dX9_factor_11 fkX9_48 (fun _ => dsC_160 P W _) nn160 rfl rfl ?_
  refine r_get 17 (aR 113) dX9_factor_14 fkX9_136 (fun _ => dsC_110 P W _) nn110 rfl rfl ?_
  refine r_iload_n 18 2 dX9_factor_17 rfl rfl rfl ?_
  refine r_iald 19 dX9_factor_18 (fun _ _ _ => dsC_113 P W _) (fun _ _ => nn113) rfl ?_
  refine r_istore_n 20 [(3, aI (G 113 x1)), (2, aI (G 112 x1)), (0, aR 160), (1, aI x1)] dX9_factor_19 rfl rfl rfl rfl ?_
  refine r_aload_n 21 2 dX9_factor_20 rfl rfl rfl ?_
  refine r_get 24 (aR 110) dX9_factor_21 fkX9_48 (fun _ => dsC_160 P W _) nn160 rfl rfl ?_
  refine r_get 27 (aR 111) dX9_factor_24 fkX9_107 (fun _ => dsC_110 P W _) nn110 rfl rfl ?_
  refine r_iload_n 28 3 dX9_factor_27 rfl rfl rfl ?_
  refine r_aald5 29 dX9_factor_28 (fun _ _ _ => dsC_111 P W _) (fun _ _ => nn111) rfl ?_
  refine r_ord 32 dX9_factor_29 q1316 rfl (Nat.le_of_ble_eq_true rfl) (Nat.le_of_ble_eq_true rfl) rfl ?_
  refine r_tsw 674 [(112, Ck_factor_b112 (G 113 x1) G), (122, Ck_factor_b122 (G 113 x1) G), (122, Ck_factor_b122 (G 113 x1) G), (132, Ck_factor_b132 x1 G), (140, Ck_factor_b140 (G 112 x1) (G 113 x1) G), (180, Ck_factor_b180 x1 (G 113 x1) G), (250, Ck_factor_b250 x1 (G 112 x1) (G 113 x1) G), (338, Ck_factor_b338 x1 (G 112 x1) G), (419, Ck_factor_b419 x1 G), (674, some (0, G)), (427, Ck_factor_b427 (G 113 x1) G), (674, some (0, G)), (493, Ck_factor_b493 G), (530, Ck_factor_b530 x1 (G 113 x1) G), (674, some (0, G)), (659, Ck_factor_b659 (G 113 x1) G)] dX9_factor_32 rfl rfl rfl ⟨?_, ?_, ?_, ?_, ?_, ?_, ?_, ?_, ?_, ?_, ?_, ?_, ?_, ?_, ?_, ?_, trivial⟩ ?_
  · refine r_to [2, 0] [(0, aR 160), (3, aI (G 113 x1))] rfl ?_
    exact s_Ck_factor_b112 P W (G 113 x1) G
  · refine r_to [2, 0] [(0, aR 160), (3, aI (G 113 x1))] rfl ?_
    exact s_Ck_factor_b122 P W (G 113 x1) G
  · refine r_to [2, 0] [(0, aR 160), (3, aI (G 113 x1))] rfl ?_
    exact s_Ck_factor_b122 P W (G 113 x1) G
  · refine r_to [2, 3] [(0, aR 160), (1, aI x1)] rfl ?_
    exact s_Ck_factor_b132 P W x1 G
  · refine r_to [2, 1, 0] [(0, aR 160), (2, aI (G 112 x1)), (3, aI (G 113 x1))] rfl ?_
    exact s_Ck_factor_b140 P W (G 112 x1) (G 113 x1) G
  · refine r_to [2, 3, 0] [(0, aR 160), (1, aI x1), (3, aI (G 113 x1))] rfl ?_
    exact s_Ck_factor_b180 P W x1 (G 113 x1) G
  · refine r_to [2, 3, 1, 0] [(0, aR 160), (1, aI x1), (2, aI (G 112 x1)), (3, aI (G 113 x1))] rfl ?_
    exact s_Ck_factor_b250 P W x1 (G 112 x1) (G 113 x1) G
  · refine r_to [2, 3, 1] [(0, aR 160), (1, aI x1), (2, aI (G 112 x1))] rfl ?_
    exact s_Ck_factor_b338 P W x1 (G 112 x1) G
  · refine r_to [2, 3] [(0, aR 160), (1, aI x1)] rfl ?_
    exact s_Ck_factor_b419 P W x1 G
  · exact r_return dX9_factor_674 rfl
  · refine r_to [2, 0] [(0, aR 160), (3, aI (G 113 x1))] rfl ?_
    exact s_Ck_factor_b427 P W (G 113 x1) G
  · exact r_return dX9_factor_674 rfl
  · refine r_to [2] [(0, aR 160)] rfl ?_
    exact s_Ck_factor_b493 P W G
  · refine r_to [2, 3, 0] [(0, aR 160), (1, aI x1), (3, aI (G 113 x1))] rfl ?_
    exact s_Ck_factor_b530 P W x1 (G 113 x1) G
  · exact r_return dX9_factor_674 rfl
  · refine r_to [2, 0] [(0, aR 160), (3, aI (G 113 x1))] rfl ?_
    exact s_Ck_factor_b659 P W (G 113 x1) G
  · exact r_return dX9_factor_674 rfl
theorem c_Ck_factor (P W : Int) (x1 : Int) (G : St) : MG (MCk_factor P W) [aR 160, aI x1] G (Ck_factor x1 G) := MG.of plX9 (Nat.le_of_ble_eq_true rfl) (s_Ck_factor P W x1 G)
theorem s_Ck_two_b343 (P W : Int) (s0 : Int) (s1 : Int) (G : St) : SS (MCk_two P W) some 343 [] [aI s0, aI s1, aR 160] G (Ck_two_b343 s0 s1 G) := by
  refine r_callvV 346 (Mc := MCk_become P W) (o := 160) (as := [aI s1, aI s0]) (st := []) dX9_two_343 rfl (c_Ck_become P W s1 s0 G) lkX9_203 (cmCk_become P W) rfl rfl rfl (fun _ => dsC_160 P W _) nn160 rfl (Nat.le_of_ble_eq_true rfl) (Nat.le_of_ble_eq_true rfl) (fun _ => rfl) rfl (fun z5 G6 => ?_)
  exact r_return dX9_two_346 rfl
theorem s_Ck_two_b312 (P W : Int) (s0 : Int) (G : St) : SS (MCk_two P W) some 312 [(0, aR 160)] [aI s0, aR 160] G (Ck_two_b312 s0 G) := by
  refine r_aload_n 313 0 dX9_two_312 rfl rfl rfl ?_
  refine r_get 316 (aR 163) dX9_two_313 fkX9_25 (fun _ => dsC_160 P W _) nn160 rfl rfl ?_
  refine r_aload_n 317 0 dX9_two_316 rfl rfl rfl ?_
  refine r_get 320 (aI (G 160 6)) dX9_two_317 fkX9_56 (fun _ => dsC_160 P W _) nn160 rfl rfl ?_
  refine r_iconst 321 1 dX9_two_320 rfl rfl ?_
  refine r_isub 322 dX9_two_321 rfl ?_
  refine r_zald 323 dX9_two_322 (fun _ _ _ => dsC_163 P W _) (fun _ _ => nn163) rfl ?_
  refine r_if_eq 342 326 dX9_two_323 rfl rfl ?_ ?_
  · refine r_iconst 343 0 dX9_two_342 rfl rfl ?_
    refine r_to [] [] rfl ?_
    exact s_Ck_two_b343 P W 0 s0 G
  · refine r_aload_n 327 0 dX9_two_326 rfl rfl rfl ?_
    refine r_get 330 (aR 163) dX9_two_327 fkX9_25 (fun _ => dsC_160 P W _) nn160 rfl rfl ?_
    refine r_aload_n 331 0 dX9_two_330 rfl rfl rfl ?_
    refine r_get 334 (aI (G 160 6)) dX9_two_331 fkX9_56 (fun _ => dsC_160 P W _) nn160 rfl rfl ?_
    refine r_zald 335 dX9_two_334 (fun _ _ _ => dsC_163 P W _) (fun _ _ => nn163) rfl ?_
    refine SS.phi (fun VV_ => Ck_two_b343 VV_ s0 G) ?_
    refine r_if_eq 342 338 dX9_two_335 rfl rfl ?_ ?_
    · refine r_iconst 343 0 dX9_two_342 rfl rfl ?_
      refine r_to [] [] rfl ?_
      exact s_Ck_two_b343 P W 0 s0 G
    · refine r_iconst 339 1 dX9_two_338 rfl rfl ?_
      refine r_goto 343 dX9_two_339 rfl ?_
      refine r_to [] [] rfl ?_
      exact s_Ck_two_b343 P W 1 s0 G
theorem s_Ck_two_b298 (P W : Int) (x4 : Int) (s0 : Int) (G : St) : SS (MCk_two P W) some 298 [(0, aR 160), (4, aI x4)] [aI s0] G (Ck_two_b298 x4 s0 G) := by
  refine r_istore 300 [(9, aI s0), (0, aR 160), (4, aI x4)] dX9_two_298 rfl rfl rfl ?_
  refine r_aload_n 301 1 dX9_two_300 rfl rfl rfl ?_
  refine r_iload 303 0 dX9_two_301 rfl rfl ?_
  refine SS.phi (fun VV_ => Ck_two_b312 VV_ G) ?_
  refine r_if_eq 310 306 dX9_two_303 rfl rfl ?_ ?_
  · refine r_iload 312 2 dX9_two_310 rfl rfl ?_
    refine r_to [1] [(0, aR 160)] rfl ?_
    exact s_Ck_two_b312 P W x4 G
  · refine r_iconst 307 1 dX9_two_306 rfl rfl ?_
    refine r_goto 312 dX9_two_307 rfl ?_
    refine r_to [1] [(0, aR 160)] rfl ?_
    exact s_Ck_two_b312 P W 1 G
theorem s_Ck_two_b235 (P W : Int) (x2 : Int) (x4 : Int) (x8 : Int) (s0 : Int) (s1 : Int) (G : St) : SS (MCk_two P W) some 235 [(0, aR 160), (2, aR x2), (4, aI x4), (8, aI x8)] [aI s0, aI s1, aR 114] G (Ck_two_b235 x2 x4 x8 s0 s1 G) := by
  refine r_iast 236 dX9_two_235 (fun _ _ _ => dsC_114 P W _) (fun _ _ => nn114) rfl ?_
  refine ss_tk (fun G3 => ?_)
  refine r_aload_n 237 0 dX9_two_236 rfl rfl rfl ?_
  refine r_dup 238 dX9_two_237 rfl rfl ?_
  refine r_get 241 (aI (G3 160 6)) dX9_two_238 fkX9_56 (fun _ => dsC_160 P W _) nn160 rfl rfl ?_
  refine r_iconst 242 1 dX9_two_241 rfl rfl ?_
  refine r_isub 243 dX9_two_242 rfl ?_
  refine r_putI 246 dX9_two_243 fkX9_56 (fun _ => dsC_160 P W _) nn160 rfl rfl ?_
  refine ss_tk (fun G4 => ?_)
  refine r_iload 248 3 dX9_two_246 rfl rfl ?_
  refine r_if_ne 293 251 dX9_two_248 rfl rfl ?_ ?_
  · refine r_iconst 294 1 dX9_two_293 rfl rfl ?_
    refine r_goto 298 dX9_two_294 rfl ?_
    refine r_to [0, 2] [(0, aR 160), (4, aI x4)] rfl ?_
    exact s_Ck_two_b298 P W x4 1 G4
  · refine r_aload_n 252 1 dX9_two_251 rfl rfl rfl ?_
    refine r_gets 255 43 dX9_two_252 q1345 rfl rfl ?_
    refine r_acmp_eq 293 258 dX9_two_255 rfl rfl ?_ ?_
    · refine r_iconst 294 1 dX9_two_293 rfl rfl ?_
      refine r_goto 298 dX9_two_294 rfl ?_
      refine r_to [0, 2] [(0, aR 160), (4, aI x4)] rfl ?_
      exact s_Ck_two_b298 P W x4 1 G4
    · refine r_aload_n 259 1 dX9_two_258 rfl rfl rfl ?_
      refine r_gets 262 44 dX9_two_259 q1346 rfl rfl ?_
      refine r_acmp_eq 293 265 dX9_two_262 rfl rfl ?_ ?_
      · refine r_iconst 294 1 dX9_two_293 rfl rfl ?_
        refine r_goto 298 dX9_two_294 rfl ?_
        refine r_to [0, 2] [(0, aR 160), (4, aI x4)] rfl ?_
        exact s_Ck_two_b298 P W x4 1 G4
      · refine r_aload_n 266 1 dX9_two_265 rfl rfl rfl ?_
        refine r_gets 269 45 dX9_two_266 q1348 rfl rfl ?_
        refine r_acmp_eq 293 272 dX9_two_269 rfl rfl ?_ ?_
        · refine r_iconst 294 1 dX9_two_293 rfl rfl ?_
          refine r_goto 298 dX9_two_294 rfl ?_
          refine r_to [0, 2] [(0, aR 160), (4, aI x4)] rfl ?_
          exact s_Ck_two_b298 P W x4 1 G4
        · refine r_aload_n 273 1 dX9_two_272 rfl rfl rfl ?_
          refine r_gets 276 46 dX9_two_273 q1349 rfl rfl ?_
          refine r_acmp_eq 293 279 dX9_two_276 rfl rfl ?_ ?_
          · refine r_iconst 294 1 dX9_two_293 rfl rfl ?_
            refine r_goto 298 dX9_two_294 rfl ?_
            refine r_to [0, 2] [(0, aR 160), (4, aI x4)] rfl ?_
            exact s_Ck_two_b298 P W x4 1 G4
          · refine r_aload_n 280 1 dX9_two_279 rfl rfl rfl ?_
            refine r_gets 283 47 dX9_two_280 q1350 rfl rfl ?_
            refine r_acmp_eq 293 286 dX9_two_283 rfl rfl ?_ ?_
            · refine r_iconst 294 1 dX9_two_293 rfl rfl ?_
              refine r_goto 298 dX9_two_294 rfl ?_
              refine r_to [0, 2] [(0, aR 160), (4, aI x4)] rfl ?_
              exact s_Ck_two_b298 P W x4 1 G4
            · refine r_aload_n 287 1 dX9_two_286 rfl rfl rfl ?_
              refine r_gets 290 48 dX9_two_287 q1351 rfl rfl ?_
              refine r_acmp_ne 297 293 dX9_two_290 rfl rfl ?_ ?_
              · refine r_iconst 298 0 dX9_two_297 rfl rfl ?_
                refine r_to [0, 2] [(0, aR 160), (4, aI x4)] rfl ?_
                exact s_Ck_two_b298 P W x4 0 G4
              · refine r_iconst 294 1 dX9_two_293 rfl rfl ?_
                refine r_goto 298 dX9_two_294 rfl ?_
                refine r_to [0, 2] [(0, aR 160), (4, aI x4)] rfl ?_
                exact s_Ck_two_b298 P W x4 1 G4
theorem s_Ck_two_b206 (P W : Int) (x1 : Int) (x2 : Int) (x4 : Int) (x6 : Int) (x8 : Int) (G : St) : SS (MCk_two P W) some 206 [(0, aR 160), (1, aI x1), (2, aR x2), (4, aI x4), (6, aI x6), (8, aI x8)] [] G (Ck_two_b206 x1 x2 x4 x6 x8 G) := by
  refine r_aload_n 207 0 dX9_two_206 rfl rfl rfl ?_
  refine r_get 210 (aR 110) dX9_two_207 fkX9_48 (fun _ => dsC_160 P W _) nn160 rfl rfl ?_
  refine r_get 213 (aR 114) dX9_two_210 fkX9_143 (fun _ => dsC_110 P W _) nn110 rfl rfl ?_
  refine r_iload_n 214 1 dX9_two_213 rfl rfl rfl ?_
  refine r_iload 216 4 dX9_two_214 rfl rfl ?_
  refine r_if_eq 233 219 dX9_two_216 rfl rfl ?_ ?_
  · refine r_iload 235 3 dX9_two_233 rfl rfl ?_
    refine r_to [0, 2, 3, 5] [(0, aR 160), (2, aR x2), (4, aI x4), (8, aI x8)] rfl ?_
    exact s_Ck_two_b235 P W x2 x4 x8 x4 x1 G
  · refine r_aload_n 220 0 dX9_two_219 rfl rfl rfl ?_
    refine r_get 223 (aR 162) dX9_two_220 fkX9_22 (fun _ => dsC_160 P W _) nn160 rfl rfl ?_
    refine r_aload_n 224 0 dX9_two_223 rfl rfl rfl ?_
    refine r_get 227 (aI (G 160 6)) dX9_two_224 fkX9_56 (fun _ => dsC_160 P W _) nn160 rfl rfl ?_
    refine r_iconst 228 1 dX9_two_227 rfl rfl ?_
    refine r_isub 229 dX9_two_228 rfl ?_
    refine r_iald 230 dX9_two_229 (fun _ _ _ => dsC_162 P W _) (fun _ _ => nn162) rfl ?_
    refine r_goto 235 dX9_two_230 rfl ?_
    refine r_to [0, 2, 3, 5] [(0, aR 160), (2, aR x2), (4, aI x4), (8, aI x8)] rfl ?_
    exact s_Ck_two_b235 P W x2 x4 x8 (G 162 ((G 160 6) - 1)) x1 G
theorem s_Ck_two_b163 (P W : Int) (x1 : Int) (x2 : Int) (x3 : Int) (x4 : Int) (x6 : Int) (x8 : Int) (s0 : Int) (G : St) : SS (MCk_two P W) some 163 [(0, aR 160), (1, aI x1), (2, aR x2), (3, aI x3), (4, aI x4), (6, aI x6), (8, aI x8)] [aI s0, aR 160] G (Ck_two_b163 x1 x2 x3 x4 x6 x8 s0 G) := by
  refine r_iload_n 164 3 dX9_two_163 rfl rfl rfl ?_
  refine r_callvV 167 (Mc := MCk_need P W) (o := 160) (as := [aI s0, aI x3]) (st := []) dX9_two_164 rfl (c_Ck_need P W s0 x3 G) lkX9_159 (cmCk_need P W) rfl rfl rfl (fun _ => dsC_160 P W _) nn160 rfl (Nat.le_of_ble_eq_true rfl) (Nat.le_of_ble_eq_true rfl) (fun _ => rfl) rfl (fun z1 G2 => ?_)
  refine r_iload 169 5 dX9_two_167 rfl rfl ?_
  refine r_if_eq 206 172 dX9_two_169 rfl rfl ?_ ?_
  · refine r_to [0, 1, 2, 4, 5, 6] [(0, aR 160), (1, aI x1), (2, aR x2), (4, aI x4), (6, aI x6), (8, aI x8)] rfl ?_
    exact s_Ck_two_b206 P W x1 x2 x4 x6 x8 G2
  · refine r_aload_n 173 0 dX9_two_172 rfl rfl rfl ?_
    refine r_get 176 (aR 163) dX9_two_173 fkX9_25 (fun _ => dsC_160 P W _) nn160 rfl rfl ?_
    refine r_aload_n 177 0 dX9_two_176 rfl rfl rfl ?_
    refine r_get 180 (aI (G2 160 6)) dX9_two_177 fkX9_56 (fun _ => dsC_160 P W _) nn160 rfl rfl ?_
    refine r_iconst 181 1 dX9_two_180 rfl rfl ?_
    refine r_isub 182 dX9_two_181 rfl ?_
    refine r_zald 183 dX9_two_182 (fun _ _ _ => dsC_163 P W _) (fun _ _ => nn163) rfl ?_
    refine r_if_ne 206 186 dX9_two_183 rfl rfl ?_ ?_
    · refine r_to [0, 1, 2, 4, 5, 6] [(0, aR 160), (1, aI x1), (2, aR x2), (4, aI x4), (6, aI x6), (8, aI x8)] rfl ?_
      exact s_Ck_two_b206 P W x1 x2 x4 x6 x8 G2
    · refine r_aload_n 187 0 dX9_two_186 rfl rfl rfl ?_
      refine r_get 190 (aR 130) dX9_two_187 fkX9_52 (fun _ => dsC_160 P W _) nn160 rfl rfl ?_
      refine r_bipush 192 6 dX9_two_190 rfl rfl ?_
      refine r_aload_n 193 0 dX9_two_192 rfl rfl rfl ?_
      refine r_get 196 (aR 162) dX9_two_193 fkX9_22 (fun _ => dsC_160 P W _) nn160 rfl rfl ?_
      refine r_aload_n 197 0 dX9_two_196 rfl rfl rfl ?_
      refine r_get 200 (aI (G2 160 6)) dX9_two_197 fkX9_56 (fun _ => dsC_160 P W _) nn160 rfl rfl ?_
      refine r_iconst 201 1 dX9_two_200 rfl rfl ?_
      refine r_isub 202 dX9_two_201 rfl ?_
      refine r_iald 203 dX9_two_202 (fun _ _ _ => dsC_162 P W _) (fun _ _ => nn162) rfl ?_
      refine r_callvV 206 (Mc := MFt_set P W) (o := 130) (as := [aI 6, aI (G2 162 ((G2 160 6) - 1))]) (st := []) dX9_two_203 rfl (c_Ft_set P W 6 (G2 162 ((G2 160 6) - 1)) G2) lkX9_59 (cmFt_set P W) rfl rfl rfl (fun _ => dsC_130 P W _) nn130 rfl (Nat.le_of_ble_eq_true rfl) (Nat.le_of_ble_eq_true rfl) (fun _ => rfl) rfl (fun z7 G8 => ?_)
      refine r_to [0, 1, 2, 4, 5, 6] [(0, aR 160), (1, aI x1), (2, aR x2), (4, aI x4), (6, aI x6), (8, aI x8)] rfl ?_
      exact s_Ck_two_b206 P W x1 x2 x4 x6 x8 G8
theorem s_Ck_two_b155 (P W : Int) (x1 : Int) (x2 : Int) (x3 : Int) (x4 : Int) (x6 : Int) (x8 : Int) (s0 : Int) (s1 : Int) (G : St) : SS (MCk_two P W) some 155 [(0, aR 160), (1, aI x1), (2, aR x2), (3, aI x3), (4, aI x4), (6, aI x6), (8, aI x8)] [aI s0, aI s1, aR 160] G (Ck_two_b155 x1 x2 x3 x4 x6 x8 s0 s1 G) := by
  refine SS.phi (fun VV_ => Ck_two_b163 x1 x2 x3 x4 x6 x8 VV_ G) ?_
  refine r_icmp_ne 162 158 dX9_two_155 rfl rfl ?_ ?_
  · refine r_iconst 163 0 dX9_two_162 rfl rfl ?_
    exact s_Ck_two_b163 P W x1 x2 x3 x4 x6 x8 0 G
  · refine r_iconst 159 1 dX9_two_158 rfl rfl ?_
    refine r_goto 163 dX9_two_159 rfl ?_
    exact s_Ck_two_b163 P W x1 x2 x3 x4 x6 x8 1 G
theorem s_Ck_two_b128 (P W : Int) (x1 : Int) (x2 : Int) (x3 : Int) (x4 : Int) (x5 : Int) (x6 : Int) (x7 : Int) (s0 : Int) (G : St) : SS (MCk_two P W) some 128 [(0, aR 160), (1, aI x1), (2, aR x2), (3, aI x3), (4, aI x4), (5, aI x5), (6, aI x6), (7, aI x7)] [aI s0] G (Ck_two_b128 x1 x2 x3 x4 x5 x6 x7 s0 G) := by
  refine r_istore 130 [(8, aI s0), (0, aR 160), (1, aI x1), (2, aR x2), (3, aI x3), (4, aI x4), (5, aI x5), (6, aI x6), (7, aI x7)] dX9_two_128 rfl rfl rfl ?_
  refine r_aload_n 131 1 dX9_two_130 rfl rfl rfl ?_
  refine r_iload 133 5 dX9_two_131 rfl rfl ?_
  refine r_iload 135 6 dX9_two_133 rfl rfl ?_
  refine r_icmp_ne 162 138 dX9_two_135 rfl rfl ?_ ?_
  · refine r_iconst 163 0 dX9_two_162 rfl rfl ?_
    refine r_to [1, 2, 3, 4, 5, 7, 0] [(0, aR 160), (1, aI x1), (2, aR x2), (3, aI x3), (4, aI x4), (6, aI x6), (8, aI s0)] rfl ?_
    exact s_Ck_two_b163 P W x1 x2 x3 x4 x6 s0 0 G
  · refine r_iload 140 8 dX9_two_138 rfl rfl ?_
    refine r_if_ne 158 143 dX9_two_140 rfl rfl ?_ ?_
    · refine r_iconst 159 1 dX9_two_158 rfl rfl ?_
      refine r_goto 163 dX9_two_159 rfl ?_
      refine r_to [1, 2, 3, 4, 5, 7, 0] [(0, aR 160), (1, aI x1), (2, aR x2), (3, aI x3), (4, aI x4), (6, aI x6), (8, aI s0)] rfl ?_
      exact s_Ck_two_b163 P W x1 x2 x3 x4 x6 s0 1 G
    · refine r_iload 145 5 dX9_two_143 rfl rfl ?_
      refine r_iload 147 0 dX9_two_145 rfl rfl ?_
      refine SS.phi (fun VV_ => Ck_two_b155 x1 x2 x3 x4 x6 s0 VV_ x4 G) ?_
      refine r_if_eq 154 150 dX9_two_147 rfl rfl ?_ ?_
      · refine r_iconst 155 0 dX9_two_154 rfl rfl ?_
        refine r_to [1, 2, 3, 4, 5, 7, 0] [(0, aR 160), (1, aI x1), (2, aR x2), (3, aI x3), (4, aI x4), (6, aI x6), (8, aI s0)] rfl ?_
        exact s_Ck_two_b155 P W x1 x2 x3 x4 x6 s0 0 x4 G
      · refine r_iconst 151 1 dX9_two_150 rfl rfl ?_
        refine r_goto 155 dX9_two_151 rfl ?_
        refine r_to [1, 2, 3, 4, 5, 7, 0] [(0, aR 160), (1, aI x1), (2, aR x2), (3, aI x3), (4, aI x4), (6, aI x6), (8, aI s0)] rfl ?_
        exact s_Ck_two_b155 P W x1 x2 x3 x4 x6 s0 1 x4 G
theorem s_Ck_two_b107 (P W : Int) (x1 : Int) (x2 : Int) (x3 : Int) (x4 : Int) (x5 : Int) (x6 : Int) (s0 : Int) (G : St) : SS (MCk_two P W) some 107 [(0, aR 160), (1, aI x1), (2, aR x2), (3, aI x3), (4, aI x4), (5, aI x5), (6, aI x6)] [aI s0] G (Ck_two_b107 x1 x2 x3 x4 x5 x6 s0 G) := by
  refine r_istore 109 [(7, aI s0), (0, aR 160), (1, aI x1), (2, aR x2), (3, aI x3), (4, aI x4), (5, aI x5), (6, aI x6)] dX9_two_107 rfl rfl rfl ?_
  refine r_aload_n 110 3 dX9_two_109 rfl rfl rfl ?_
  refine r_gets 113 38 dX9_two_110 q1322 rfl rfl ?_
  refine r_acmp_eq 123 116 dX9_two_113 rfl rfl ?_ ?_
  · refine r_iconst 124 1 dX9_two_123 rfl rfl ?_
    refine r_goto 128 dX9_two_124 rfl ?_
    refine r_to [1, 2, 3, 4, 5, 6, 7, 0] [(0, aR 160), (1, aI x1), (2, aR x2), (3, aI x3), (4, aI x4), (5, aI x5), (6, aI x6), (7, aI s0)] rfl ?_
    exact s_Ck_two_b128 P W x1 x2 x3 x4 x5 x6 s0 1 G
  · refine r_aload_n 117 3 dX9_two_116 rfl rfl rfl ?_
    refine r_gets 120 39 dX9_two_117 q1347 rfl rfl ?_
    refine r_acmp_ne 127 123 dX9_two_120 rfl rfl ?_ ?_
    · refine r_iconst 128 0 dX9_two_127 rfl rfl ?_
      refine r_to [1, 2, 3, 4, 5, 6, 7, 0] [(0, aR 160), (1, aI x1), (2, aR x2), (3, aI x3), (4, aI x4), (5, aI x5), (6, aI x6), (7, aI s0)] rfl ?_
      exact s_Ck_two_b128 P W x1 x2 x3 x4 x5 x6 s0 0 G
    · refine r_iconst 124 1 dX9_two_123 rfl rfl ?_
      refine r_goto 128 dX9_two_124 rfl ?_
      refine r_to [1, 2, 3, 4, 5, 6, 7, 0] [(0, aR 160), (1, aI x1), (2, aR x2), (3, aI x3), (4, aI x4), (5, aI x5), (6, aI x6), (7, aI s0)] rfl ?_
      exact s_Ck_two_b128 P W x1 x2 x3 x4 x5 x6 s0 1 G
theorem s_Ck_two_b65 (P W : Int) (x1 : Int) (x2 : Int) (x3 : Int) (x4 : Int) (x5 : Int) (s0 : Int) (G : St) : SS (MCk_two P W) some 65 [(0, aR 160), (1, aI x1), (2, aR x2), (3, aI x3), (4, aI x4), (5, aI x5)] [aI s0] G (Ck_two_b65 x1 x2 x3 x4 x5 s0 G) := by
  refine r_istore 67 [(6, aI s0), (0, aR 160), (1, aI x1), (2, aR x2), (3, aI x3), (4, aI x4), (5, aI x5)] dX9_two_65 rfl rfl rfl ?_
  refine r_aload_n 68 3 dX9_two_67 rfl rfl rfl ?_
  refine r_gets 71 40 dX9_two_68 q1342 rfl rfl ?_
  refine r_acmp_eq 102 74 dX9_two_71 rfl rfl ?_ ?_
  · refine r_iconst 103 1 dX9_two_102 rfl rfl ?_
    refine r_goto 107 dX9_two_103 rfl ?_
    refine r_to [1, 2, 3, 4, 5, 6, 0] [(0, aR 160), (1, aI x1), (2, aR x2), (3, aI x3), (4, aI x4), (5, aI x5), (6, aI s0)] rfl ?_
    exact s_Ck_two_b107 P W x1 x2 x3 x4 x5 s0 1 G
  · refine r_aload_n 75 3 dX9_two_74 rfl rfl rfl ?_
    refine r_gets 78 41 dX9_two_75 q1343 rfl rfl ?_
    refine r_acmp_eq 102 81 dX9_two_78 rfl rfl ?_ ?_
    · refine r_iconst 103 1 dX9_two_102 rfl rfl ?_
      refine r_goto 107 dX9_two_103 rfl ?_
      refine r_to [1, 2, 3, 4, 5, 6, 0] [(0, aR 160), (1, aI x1), (2, aR x2), (3, aI x3), (4, aI x4), (5, aI x5), (6, aI s0)] rfl ?_
      exact s_Ck_two_b107 P W x1 x2 x3 x4 x5 s0 1 G
    · refine r_aload_n 82 3 dX9_two_81 rfl rfl rfl ?_
      refine r_gets 85 42 dX9_two_82 q1344 rfl rfl ?_
      refine r_acmp_eq 102 88 dX9_two_85 rfl rfl ?_ ?_
      · refine r_iconst 103 1 dX9_two_102 rfl rfl ?_
        refine r_goto 107 dX9_two_103 rfl ?_
        refine r_to [1, 2, 3, 4, 5, 6, 0] [(0, aR 160), (1, aI x1), (2, aR x2), (3, aI x3), (4, aI x4), (5, aI x5), (6, aI s0)] rfl ?_
        exact s_Ck_two_b107 P W x1 x2 x3 x4 x5 s0 1 G
      · refine r_aload_n 89 3 dX9_two_88 rfl rfl rfl ?_
        refine r_gets 92 43 dX9_two_89 q1345 rfl rfl ?_
        refine r_acmp_eq 102 95 dX9_two_92 rfl rfl ?_ ?_
        · refine r_iconst 103 1 dX9_two_102 rfl rfl ?_
          refine r_goto 107 dX9_two_103 rfl ?_
          refine r_to [1, 2, 3, 4, 5, 6, 0] [(0, aR 160), (1, aI x1), (2, aR x2), (3, aI x3), (4, aI x4), (5, aI x5), (6, aI s0)] rfl ?_
          exact s_Ck_two_b107 P W x1 x2 x3 x4 x5 s0 1 G
        · refine r_aload_n 96 3 dX9_two_95 rfl rfl rfl ?_
          refine r_gets 99 44 dX9_two_96 q1346 rfl rfl ?_
          refine r_acmp_ne 106 102 dX9_two_99 rfl rfl ?_ ?_
          · refine r_iconst 107 0 dX9_two_106 rfl rfl ?_
            refine r_to [1, 2, 3, 4, 5, 6, 0] [(0, aR 160), (1, aI x1), (2, aR x2), (3, aI x3), (4, aI x4), (5, aI x5), (6, aI s0)] rfl ?_
            exact s_Ck_two_b107 P W x1 x2 x3 x4 x5 s0 0 G
          · refine r_iconst 103 1 dX9_two_102 rfl rfl ?_
            refine r_goto 107 dX9_two_103 rfl ?_
            refine r_to [1, 2, 3, 4, 5, 6, 0] [(0, aR 160), (1, aI x1), (2, aR x2), (3, aI x3), (4, aI x4), (5, aI x5), (6, aI s0)] rfl ?_
            exact s_Ck_two_b107 P W x1 x2 x3 x4 x5 s0 1 G
theorem s_Ck_two (P W : Int) (x1 : Int) (G : St) : SS (MCk_two P W) some 0 [(0, aR 160), (1, aI x1)] [] G (Ck_two x1 G) := by
  refine r_aload_n 1 0 dX9_two_0 rfl rfl rfl ?_
  refine r_get 4 (aR 110) dX9_two_1 fkX9_48 (fun _ => dsC_160 P W _) nn160 rfl rfl ?_
  refine r_get 7 (aR 111) dX9_two_4 fkX9_107 (fun _ => dsC_110 P W _) nn110 rfl rfl ?_
  refine r_iload_n 8 1 dX9_two_7 rfl rfl rfl ?_
  refine r_aald5 9 dX9_two_8 (fun _ _ _ => dsC_111 P W _) (fun _ _ => nn111) rfl ?_
  refine r_astore_n 10 [(2, aR (G 111 x1)), (0, aR 160), (1, aI x1)] dX9_two_9 rfl rfl rfl rfl ?_
  refine r_aload_n 11 1 dX9_two_10 rfl rfl rfl ?_
  refine r_get 14 (aR 110) dX9_two_11 fkX9_48 (fun _ => dsC_160 P W _) nn160 rfl rfl ?_
  refine r_get 17 (aR 113) dX9_two_14 fkX9_136 (fun _ => dsC_110 P W _) nn110 rfl rfl ?_
  refine r_iload_n 18 2 dX9_two_17 rfl rfl rfl ?_
  refine r_iald 19 dX9_two_18 (fun _ _ _ => dsC_113 P W _) (fun _ _ => nn113) rfl ?_
  refine r_istore_n 20 [(3, aI (G 113 x1)), (2, aR (G 111 x1)), (0, aR 160), (1, aI x1)] dX9_two_19 rfl rfl rfl rfl ?_
  refine r_aload_n 21 2 dX9_two_20 rfl rfl rfl ?_
  refine r_get 24 (aR 161) dX9_two_21 fkX9_18 (fun _ => dsC_160 P W _) nn160 rfl rfl ?_
  refine r_aload_n 25 2 dX9_two_24 rfl rfl rfl ?_
  refine r_get 28 (aI (G 160 6)) dX9_two_25 fkX9_56 (fun _ => dsC_160 P W _) nn160 rfl rfl ?_
  refine r_iconst 29 2 dX9_two_28 rfl rfl ?_
  refine r_isub 30 dX9_two_29 rfl ?_
  refine r_iald 31 dX9_two_30 (fun _ _ _ => dsC_161 P W _) (fun _ _ => nn161) rfl ?_
  refine r_istore 33 [(4, aI (G 161 ((G 160 6) - 2))), (3, aI (G 113 x1)), (2, aR (G 111 x1)), (0, aR 160), (1, aI x1)] dX9_two_31 rfl rfl rfl ?_
  refine r_aload_n 34 3 dX9_two_33 rfl rfl rfl ?_
  refine r_get 37 (aR 161) dX9_two_34 fkX9_18 (fun _ => dsC_160 P W _) nn160 rfl rfl ?_
  refine r_aload_n 38 3 dX9_two_37 rfl rfl rfl ?_
  refine r_get 41 (aI (G 160 6)) dX9_two_38 fkX9_56 (fun _ => dsC_160 P W _) nn160 rfl rfl ?_
  refine r_iconst 42 1 dX9_two_41 rfl rfl ?_
  refine r_isub 43 dX9_two_42 rfl ?_
  refine r_iald 44 dX9_two_43 (fun _ _ _ => dsC_161 P W _) (fun _ _ => nn161) rfl ?_
  refine r_istore 46 [(5, aI (G 161 ((G 160 6) - 1))), (4, aI (G 161 ((G 160 6) - 2))), (3, aI (G 113 x1)), (2, aR (G 111 x1)), (0, aR 160), (1, aI x1)] dX9_two_44 rfl rfl rfl ?_
  refine r_aload_n 47 3 dX9_two_46 rfl rfl rfl ?_
  refine r_gets 50 49 dX9_two_47 q1340 rfl rfl ?_
  refine r_acmp_eq 60 53 dX9_two_50 rfl rfl ?_ ?_
  · refine r_iconst 61 1 dX9_two_60 rfl rfl ?_
    refine r_goto 65 dX9_two_61 rfl ?_
    refine r_to [4, 5, 3, 2, 1, 0] [(0, aR 160), (1, aI x1), (2, aR (G 111 x1)), (3, aI (G 113 x1)), (4, aI (G 161 ((G 160 6) - 2))), (5, aI (G 161 ((G 160 6) - 1)))] rfl ?_
    exact s_Ck_two_b65 P W x1 (G 111 x1) (G 113 x1) (G 161 ((G 160 6) - 2)) (G 161 ((G 160 6) - 1)) 1 G
  · refine r_aload_n 54 3 dX9_two_53 rfl rfl rfl ?_
    refine r_gets 57 50 dX9_two_54 q1341 rfl rfl ?_
    refine r_acmp_ne 64 60 dX9_two_57 rfl rfl ?_ ?_
    · refine r_iconst 65 0 dX9_two_64 rfl rfl ?_
      refine r_to [4, 5, 3, 2, 1, 0] [(0, aR 160), (1, aI x1), (2, aR (G 111 x1)), (3, aI (G 113 x1)), (4, aI (G 161 ((G 160 6) - 2))), (5, aI (G 161 ((G 160 6) - 1)))] rfl ?_
      exact s_Ck_two_b65 P W x1 (G 111 x1) (G 113 x1) (G 161 ((G 160 6) - 2)) (G 161 ((G 160 6) - 1)) 0 G
    · refine r_iconst 61 1 dX9_two_60 rfl rfl ?_
      refine r_goto 65 dX9_two_61 rfl ?_
      refine r_to [4, 5, 3, 2, 1, 0] [(0, aR 160), (1, aI x1), (2, aR (G 111 x1)), (3, aI (G 113 x1)), (4, aI (G 161 ((G 160 6) - 2))), (5, aI (G 161 ((G 160 6) - 1)))] rfl ?_
      exact s_Ck_two_b65 P W x1 (G 111 x1) (G 113 x1) (G 161 ((G 160 6) - 2)) (G 161 ((G 160 6) - 1)) 1 G
theorem c_Ck_two (P W : Int) (x1 : Int) (G : St) : MG (MCk_two P W) [aR 160, aI x1] G (Ck_two x1 G) := MG.of plX9 (Nat.le_of_ble_eq_true rfl) (s_Ck_two P W x1 G)
theorem s_Ck_operator_b84 (P W : Int) (x2 : Int) (x4 : Int) (s0 : Int) (G : St) : SS (MCk_operator P W) some 84 [(0, aR 160), (2, aI x2), (4, aI x4)] [aI s0, aR 160] G (Ck_operator_b84 x2 x4 s0 G) := by
  refine r_iload_n 85 1 dX9_operator_84 rfl rfl rfl ?_
  refine r_callvV 88 (Mc := MCk_need P W) (o := 160) (as := [aI s0, aI x2]) (st := []) dX9_operator_85 rfl (c_Ck_need P W s0 x2 G) lkX9_159 (cmCk_need P W) rfl rfl rfl (fun _ => dsC_160 P W _) nn160 rfl (Nat.le_of_ble_eq_true rfl) (Nat.le_of_ble_eq_true rfl) (fun _ => rfl) rfl (fun z1 G2 => ?_)
  refine r_aload_n 89 0 dX9_operator_88 rfl rfl rfl ?_
  refine r_get 92 (aR 162) dX9_operator_89 fkX9_22 (fun _ => dsC_160 P W _) nn160 rfl rfl ?_
  refine r_iload 94 2 dX9_operator_92 rfl rfl ?_
  refine r_iload_n 95 1 dX9_operator_94 rfl rfl rfl ?_
  refine r_iast 96 dX9_operator_95 (fun _ _ _ => dsC_162 P W _) (fun _ _ => nn162) rfl ?_
  refine ss_tk (fun G3 => ?_)
  refine r_goto 272 dX9_operator_96 rfl ?_
  exact r_return dX9_operator_272 rfl
theorem s_Ck_operator_b68 (P W : Int) (x2 : Int) (x4 : Int) (G : St) : SS (MCk_operator P W) some 68 [(0, aR 160), (2, aI x2), (4, aI x4)] [] G (Ck_operator_b68 x2 x4 G) := by
  refine r_aload_n 69 0 dX9_operator_68 rfl rfl rfl ?_
  refine r_aload_n 70 0 dX9_operator_69 rfl rfl rfl ?_
  refine r_get 73 (aR 161) dX9_operator_70 fkX9_18 (fun _ => dsC_160 P W _) nn160 rfl rfl ?_
  refine r_iload 75 2 dX9_operator_73 rfl rfl ?_
  refine r_iald 76 dX9_operator_75 (fun _ _ _ => dsC_161 P W _) (fun _ _ => nn161) rfl ?_
  refine SS.phi (fun VV_ => Ck_operator_b84 x2 x4 VV_ G) ?_
  refine r_if_ne 83 79 dX9_operator_76 rfl rfl ?_ ?_
  · refine r_iconst 84 0 dX9_operator_83 rfl rfl ?_
    exact s_Ck_operator_b84 P W x2 x4 0 G
  · refine r_iconst 80 1 dX9_operator_79 rfl rfl ?_
    refine r_goto 84 dX9_operator_80 rfl ?_
    exact s_Ck_operator_b84 P W x2 x4 1 G
theorem s_Ck_operator_b116 (P W : Int) (x2 : Int) (x4 : Int) (s0 : Int) (G : St) : SS (MCk_operator P W) some 116 [(0, aR 160), (2, aI x2), (4, aI x4)] [aI s0, aR 160] G (Ck_operator_b116 x2 x4 s0 G) := by
  refine r_iload_n 117 1 dX9_operator_116 rfl rfl rfl ?_
  refine r_callvV 120 (Mc := MCk_need P W) (o := 160) (as := [aI s0, aI x2]) (st := []) dX9_operator_117 rfl (c_Ck_need P W s0 x2 G) lkX9_159 (cmCk_need P W) rfl rfl rfl (fun _ => dsC_160 P W _) nn160 rfl (Nat.le_of_ble_eq_true rfl) (Nat.le_of_ble_eq_true rfl) (fun _ => rfl) rfl (fun z4 G5 => ?_)
  refine r_aload_n 121 0 dX9_operator_120 rfl rfl rfl ?_
  refine r_get 124 (aR 162) dX9_operator_121 fkX9_22 (fun _ => dsC_160 P W _) nn160 rfl rfl ?_
  refine r_iload 126 2 dX9_operator_124 rfl rfl ?_
  refine r_iload_n 127 1 dX9_operator_126 rfl rfl rfl ?_
  refine r_iast 128 dX9_operator_127 (fun _ _ _ => dsC_162 P W _) (fun _ _ => nn162) rfl ?_
  refine ss_tk (fun G6 => ?_)
  refine r_goto 272 dX9_operator_128 rfl ?_
  exact r_return dX9_operator_272 rfl
theorem s_Ck_operator_b99 (P W : Int) (x2 : Int) (x4 : Int) (G : St) : SS (MCk_operator P W) some 99 [(0, aR 160), (2, aI x2), (4, aI x4)] [] G (Ck_operator_b99 x2 x4 G) := by
  refine r_aload_n 100 0 dX9_operator_99 rfl rfl rfl ?_
  refine r_aload_n 101 0 dX9_operator_100 rfl rfl rfl ?_
  refine r_get 104 (aR 161) dX9_operator_101 fkX9_18 (fun _ => dsC_160 P W _) nn160 rfl rfl ?_
  refine r_iload 106 2 dX9_operator_104 rfl rfl ?_
  refine r_iald 107 dX9_operator_106 (fun _ _ _ => dsC_161 P W _) (fun _ _ => nn161) rfl ?_
  refine r_iconst 108 1 dX9_operator_107 rfl rfl ?_
  refine SS.phi (fun VV_ => Ck_operator_b116 x2 x4 VV_ G) ?_
  refine r_icmp_ne 115 111 dX9_operator_108 rfl rfl ?_ ?_
  · refine r_iconst 116 0 dX9_operator_115 rfl rfl ?_
    exact s_Ck_operator_b116 P W x2 x4 0 G
  · refine r_iconst 112 1 dX9_operator_111 rfl rfl ?_
    refine r_goto 116 dX9_operator_112 rfl ?_
    exact s_Ck_operator_b116 P W x2 x4 1 G
theorem s_Ck_operator_b258 (P W : Int) (s0 : Int) (s1 : Int) (G : St) : SS (MCk_operator P W) some 258 [] [aI s0, aI s1, aR 160] G (Ck_operator_b258 s0 s1 G) := by
  refine r_callvV 261 (Mc := MCk_become P W) (o := 160) (as := [aI s1, aI s0]) (st := []) dX9_operator_258 rfl (c_Ck_become P W s1 s0 G) lkX9_203 (cmCk_become P W) rfl rfl rfl (fun _ => dsC_160 P W _) nn160 rfl (Nat.le_of_ble_eq_true rfl) (Nat.le_of_ble_eq_true rfl) (fun _ => rfl) rfl (fun z11 G12 => ?_)
  refine r_goto 272 dX9_operator_261 rfl ?_
  exact r_return dX9_operator_272 rfl
theorem s_Ck_operator_b173 (P W : Int) (x1 : Int) (x2 : Int) (x4 : Int) (s0 : Int) (G : St) : SS (MCk_operator P W) some 173 [(0, aR 160), (1, aI x1), (2, aI x2), (4, aI x4)] [aI s0, aR 160] G (Ck_operator_b173 x1 x2 x4 s0 G) := by
  refine r_iload_n 174 2 dX9_operator_173 rfl rfl rfl ?_
  refine r_callvV 177 (Mc := MCk_need P W) (o := 160) (as := [aI s0, aI x2]) (st := []) dX9_operator_174 rfl (c_Ck_need P W s0 x2 G) lkX9_159 (cmCk_need P W) rfl rfl rfl (fun _ => dsC_160 P W _) nn160 rfl (Nat.le_of_ble_eq_true rfl) (Nat.le_of_ble_eq_true rfl) (fun _ => rfl) rfl (fun z7 G8 => ?_)
  refine r_aload_n 178 0 dX9_operator_177 rfl rfl rfl ?_
  refine r_get 181 (aR 110) dX9_operator_178 fkX9_48 (fun _ => dsC_160 P W _) nn160 rfl rfl ?_
  refine r_get 184 (aR 114) dX9_operator_181 fkX9_143 (fun _ => dsC_110 P W _) nn110 rfl rfl ?_
  refine r_iload_n 185 1 dX9_operator_184 rfl rfl rfl ?_
  refine r_aload_n 186 0 dX9_operator_185 rfl rfl rfl ?_
  refine r_get 189 (aR 161) dX9_operator_186 fkX9_18 (fun _ => dsC_160 P W _) nn160 rfl rfl ?_
  refine r_iload 191 3 dX9_operator_189 rfl rfl ?_
  refine r_iald 192 dX9_operator_191 (fun _ _ _ => dsC_161 P W _) (fun _ _ => nn161) rfl ?_
  refine r_iast 193 dX9_operator_192 (fun _ _ _ => dsC_114 P W _) (fun _ _ => nn114) rfl ?_
  refine ss_tk (fun G9 => ?_)
  refine r_aload_n 194 0 dX9_operator_193 rfl rfl rfl ?_
  refine r_dup 195 dX9_operator_194 rfl rfl ?_
  refine r_get 198 (aI (G9 160 6)) dX9_operator_195 fkX9_56 (fun _ => dsC_160 P W _) nn160 rfl rfl ?_
  refine r_iconst 199 2 dX9_operator_198 rfl rfl ?_
  refine r_isub 200 dX9_operator_199 rfl ?_
  refine r_putI 203 dX9_operator_200 fkX9_56 (fun _ => dsC_160 P W _) nn160 rfl rfl ?_
  refine ss_tk (fun G10 => ?_)
  refine r_aload_n 204 0 dX9_operator_203 rfl rfl rfl ?_
  refine r_aload_n 205 0 dX9_operator_204 rfl rfl rfl ?_
  refine r_get 208 (aR 161) dX9_operator_205 fkX9_18 (fun _ => dsC_160 P W _) nn160 rfl rfl ?_
  refine r_aload_n 209 0 dX9_operator_208 rfl rfl rfl ?_
  refine r_get 212 (aI (G10 160 6)) dX9_operator_209 fkX9_56 (fun _ => dsC_160 P W _) nn160 rfl rfl ?_
  refine r_iald 213 dX9_operator_212 (fun _ _ _ => dsC_161 P W _) (fun _ _ => nn161) rfl ?_
  refine r_aload_n 214 0 dX9_operator_213 rfl rfl rfl ?_
  refine r_get 217 (aR 163) dX9_operator_214 fkX9_25 (fun _ => dsC_160 P W _) nn160 rfl rfl ?_
  refine r_aload_n 218 0 dX9_operator_217 rfl rfl rfl ?_
  refine r_get 221 (aI (G10 160 6)) dX9_operator_218 fkX9_56 (fun _ => dsC_160 P W _) nn160 rfl rfl ?_
  refine r_iconst 222 1 dX9_operator_221 rfl rfl ?_
  refine r_isub 223 dX9_operator_222 rfl ?_
  refine r_zald 224 dX9_operator_223 (fun _ _ _ => dsC_163 P W _) (fun _ _ => nn163) rfl ?_
  refine r_if_eq 257 227 dX9_operator_224 rfl rfl ?_ ?_
  · refine r_iconst 258 0 dX9_operator_257 rfl rfl ?_
    refine r_to [] [] rfl ?_
    exact s_Ck_operator_b258 P W 0 (G10 161 (G10 160 6)) G10
  · refine r_aload_n 228 0 dX9_operator_227 rfl rfl rfl ?_
    refine r_get 231 (aR 163) dX9_operator_228 fkX9_25 (fun _ => dsC_160 P W _) nn160 rfl rfl ?_
    refine r_aload_n 232 0 dX9_operator_231 rfl rfl rfl ?_
    refine r_get 235 (aI (G10 160 6)) dX9_operator_232 fkX9_56 (fun _ => dsC_160 P W _) nn160 rfl rfl ?_
    refine r_zald 236 dX9_operator_235 (fun _ _ _ => dsC_163 P W _) (fun _ _ => nn163) rfl ?_
    refine r_if_eq 257 239 dX9_operator_236 rfl rfl ?_ ?_
    · refine r_iconst 258 0 dX9_operator_257 rfl rfl ?_
      refine r_to [] [] rfl ?_
      exact s_Ck_operator_b258 P W 0 (G10 161 (G10 160 6)) G10
    · refine r_aload_n 240 0 dX9_operator_239 rfl rfl rfl ?_
      refine r_get 243 (aR 163) dX9_operator_240 fkX9_25 (fun _ => dsC_160 P W _) nn160 rfl rfl ?_
      refine r_aload_n 244 0 dX9_operator_243 rfl rfl rfl ?_
      refine r_get 247 (aI (G10 160 6)) dX9_operator_244 fkX9_56 (fun _ => dsC_160 P W _) nn160 rfl rfl ?_
      refine r_iconst 248 1 dX9_operator_247 rfl rfl ?_
      refine r_iadd 249 dX9_operator_248 rfl ?_
      refine r_zald 250 dX9_operator_249 (fun _ _ _ => dsC_163 P W _) (fun _ _ => nn163) rfl ?_
      refine SS.phi (fun VV_ => Ck_operator_b258 VV_ (G10 161 (G10 160 6)) G10) ?_
      refine r_if_eq 257 253 dX9_operator_250 rfl rfl ?_ ?_
      · refine r_iconst 258 0 dX9_operator_257 rfl rfl ?_
        refine r_to [] [] rfl ?_
        exact s_Ck_operator_b258 P W 0 (G10 161 (G10 160 6)) G10
      · refine r_iconst 254 1 dX9_operator_253 rfl rfl ?_
        refine r_goto 258 dX9_operator_254 rfl ?_
        refine r_to [] [] rfl ?_
        exact s_Ck_operator_b258 P W 1 (G10 161 (G10 160 6)) G10
theorem s_Ck_operator_b131 (P W : Int) (x1 : Int) (x2 : Int) (x4 : Int) (G : St) : SS (MCk_operator P W) some 131 [(0, aR 160), (1, aI x1), (2, aI x2), (4, aI x4)] [] G (Ck_operator_b131 x1 x2 x4 G) := by
  refine r_aload_n 132 0 dX9_operator_131 rfl rfl rfl ?_
  refine r_aload_n 133 0 dX9_operator_132 rfl rfl rfl ?_
  refine r_get 136 (aR 161) dX9_operator_133 fkX9_18 (fun _ => dsC_160 P W _) nn160 rfl rfl ?_
  refine r_aload_n 137 0 dX9_operator_136 rfl rfl rfl ?_
  refine r_get 140 (aI (G 160 6)) dX9_operator_137 fkX9_56 (fun _ => dsC_160 P W _) nn160 rfl rfl ?_
  refine r_iconst 141 3 dX9_operator_140 rfl rfl ?_
  refine r_isub 142 dX9_operator_141 rfl ?_
  refine r_iald 143 dX9_operator_142 (fun _ _ _ => dsC_161 P W _) (fun _ _ => nn161) rfl ?_
  refine r_iconst 144 1 dX9_operator_143 rfl rfl ?_
  refine r_icmp_ne 172 147 dX9_operator_144 rfl rfl ?_ ?_
  · refine r_iconst 173 0 dX9_operator_172 rfl rfl ?_
    exact s_Ck_operator_b173 P W x1 x2 x4 0 G
  · refine r_aload_n 148 0 dX9_operator_147 rfl rfl rfl ?_
    refine r_get 151 (aR 161) dX9_operator_148 fkX9_18 (fun _ => dsC_160 P W _) nn160 rfl rfl ?_
    refine r_aload_n 152 0 dX9_operator_151 rfl rfl rfl ?_
    refine r_get 155 (aI (G 160 6)) dX9_operator_152 fkX9_56 (fun _ => dsC_160 P W _) nn160 rfl rfl ?_
    refine r_iconst 156 2 dX9_operator_155 rfl rfl ?_
    refine r_isub 157 dX9_operator_156 rfl ?_
    refine r_iald 158 dX9_operator_157 (fun _ _ _ => dsC_161 P W _) (fun _ _ => nn161) rfl ?_
    refine r_aload_n 159 0 dX9_operator_158 rfl rfl rfl ?_
    refine r_get 162 (aR 161) dX9_operator_159 fkX9_18 (fun _ => dsC_160 P W _) nn160 rfl rfl ?_
    refine r_iload 164 3 dX9_operator_162 rfl rfl ?_
    refine r_iald 165 dX9_operator_164 (fun _ _ _ => dsC_161 P W _) (fun _ _ => nn161) rfl ?_
    refine SS.phi (fun VV_ => Ck_operator_b173 x1 x2 x4 VV_ G) ?_
    refine r_icmp_ne 172 168 dX9_operator_165 rfl rfl ?_ ?_
    · refine r_iconst 173 0 dX9_operator_172 rfl rfl ?_
      exact s_Ck_operator_b173 P W x1 x2 x4 0 G
    · refine r_iconst 169 1 dX9_operator_168 rfl rfl ?_
      refine r_goto 173 dX9_operator_169 rfl ?_
      exact s_Ck_operator_b173 P W x1 x2 x4 1 G
theorem s_Ck_operator_b267 (P W : Int) (x1 : Int) (G : St) : SS (MCk_operator P W) some 267 [(0, aR 160), (1, aI x1)] [] G (Ck_operator_b267 x1 G) := by
  refine r_aload_n 268 0 dX9_operator_267 rfl rfl rfl ?_
  refine r_iload_n 269 1 dX9_operator_268 rfl rfl rfl ?_
  refine r_callvV 272 (Mc := MCk_two P W) (o := 160) (as := [aI x1]) (st := []) dX9_operator_269 rfl (c_Ck_two P W x1 G) lkX9_210 (cmCk_two P W) rfl rfl rfl (fun _ => dsC_160 P W _) nn160 rfl (Nat.le_of_ble_eq_true rfl) (Nat.le_of_ble_eq_true rfl) (fun _ => rfl) rfl (fun z13 G14 => ?_)
  exact r_return dX9_operator_272 rfl
theorem s_Ck_operator (P W : Int) (x1 : Int) (G : St) : SS (MCk_operator P W) some 0 [(0, aR 160), (1, aI x1)] [] G (Ck_operator x1 G) := by
  refine r_aload_n 1 0 dX9_operator_0 rfl rfl rfl ?_
  refine r_get 4 (aR 110) dX9_operator_1 fkX9_48 (fun _ => dsC_160 P W _) nn160 rfl rfl ?_
  refine r_get 7 (aR 113) dX9_operator_4 fkX9_136 (fun _ => dsC_110 P W _) nn110 rfl rfl ?_
  refine r_iload_n 8 1 dX9_operator_7 rfl rfl rfl ?_
  refine r_iald 9 dX9_operator_8 (fun _ _ _ => dsC_113 P W _) (fun _ _ => nn113) rfl ?_
  refine r_istore_n 10 [(2, aI (G 113 x1)), (0, aR 160), (1, aI x1)] dX9_operator_9 rfl rfl rfl rfl ?_
  refine r_aload_n 11 1 dX9_operator_10 rfl rfl rfl ?_
  refine r_get 14 (aR 110) dX9_operator_11 fkX9_48 (fun _ => dsC_160 P W _) nn160 rfl rfl ?_
  refine r_get 17 (aR 111) dX9_operator_14 fkX9_107 (fun _ => dsC_110 P W _) nn110 rfl rfl ?_
  refine r_iload_n 18 2 dX9_operator_17 rfl rfl rfl ?_
  refine r_aald5 19 dX9_operator_18 (fun _ _ _ => dsC_111 P W _) (fun _ _ => nn111) rfl ?_
  refine r_astore_n 20 [(3, aR (G 111 x1)), (2, aI (G 113 x1)), (0, aR 160), (1, aI x1)] dX9_operator_19 rfl rfl rfl rfl ?_
  refine r_aload_n 21 2 dX9_operator_20 rfl rfl rfl ?_
  refine r_get 24 (aI (G 160 6)) dX9_operator_21 fkX9_56 (fun _ => dsC_160 P W _) nn160 rfl rfl ?_
  refine r_iconst 25 1 dX9_operator_24 rfl rfl ?_
  refine r_isub 26 dX9_operator_25 rfl ?_
  refine r_istore 28 [(4, aI ((G 160 6) - 1)), (3, aR (G 111 x1)), (2, aI (G 113 x1)), (0, aR 160), (1, aI x1)] dX9_operator_26 rfl rfl rfl ?_
  refine r_aload_n 29 1 dX9_operator_28 rfl rfl rfl ?_
  refine r_ord 32 dX9_operator_29 q1316 rfl (Nat.le_of_ble_eq_true rfl) (Nat.le_of_ble_eq_true rfl) rfl ?_
  refine r_tsw 267 [(68, Ck_operator_b68 (G 113 x1) ((G 160 6) - 1) G), (68, Ck_operator_b68 (G 113 x1) ((G 160 6) - 1) G), (99, Ck_operator_b99 (G 113 x1) ((G 160 6) - 1) G), (131, Ck_operator_b131 x1 (G 113 x1) ((G 160 6) - 1) G), (264, some (0, G))] dX9_operator_32 rfl rfl rfl ⟨?_, ?_, ?_, ?_, ?_, trivial⟩ ?_
  · refine r_to [3, 2, 0] [(0, aR 160), (2, aI (G 113 x1)), (4, aI ((G 160 6) - 1))] rfl ?_
    exact s_Ck_operator_b68 P W (G 113 x1) ((G 160 6) - 1) G
  · refine r_to [3, 2, 0] [(0, aR 160), (2, aI (G 113 x1)), (4, aI ((G 160 6) - 1))] rfl ?_
    exact s_Ck_operator_b68 P W (G 113 x1) ((G 160 6) - 1) G
  · refine r_to [3, 2, 0] [(0, aR 160), (2, aI (G 113 x1)), (4, aI ((G 160 6) - 1))] rfl ?_
    exact s_Ck_operator_b99 P W (G 113 x1) ((G 160 6) - 1) G
  · refine r_to [3, 4, 2, 0] [(0, aR 160), (1, aI x1), (2, aI (G 113 x1)), (4, aI ((G 160 6) - 1))] rfl ?_
    exact s_Ck_operator_b131 P W x1 (G 113 x1) ((G 160 6) - 1) G
  · refine r_goto 272 dX9_operator_264 rfl ?_
    exact r_return dX9_operator_272 rfl
  · refine r_to [3, 4] [(0, aR 160), (1, aI x1)] rfl ?_
    exact s_Ck_operator_b267 P W x1 G
theorem c_Ck_operator (P W : Int) (x1 : Int) (G : St) : MG (MCk_operator P W) [aR 160, aI x1] G (Ck_operator x1 G) := MG.of plX9 (Nat.le_of_ble_eq_true rfl) (s_Ck_operator P W x1 G)
theorem s_Ck_assign_b170 (P W : Int) (x1 : Int) (x2 : Int) (s0 : Int) (s1 : Int) (G : St) : SS (MCk_assign P W) some 170 [(0, aR 160), (1, aI x1), (2, aI x2)] [aI s0, aI s1, aR 114] G (Ck_assign_b170 x1 x2 s0 s1 G) := by
  refine r_iast 171 dX9_assign_170 (fun _ _ _ => dsC_114 P W _) (fun _ _ => nn114) rfl ?_
  refine ss_tk (fun G6 => ?_)
  refine r_aload_n 172 0 dX9_assign_171 rfl rfl rfl ?_
  refine r_get 175 (aR 110) dX9_assign_172 fkX9_48 (fun _ => dsC_160 P W _) nn160 rfl rfl ?_
  refine r_get 178 (aR 112) dX9_assign_175 fkX9_133 (fun _ => dsC_110 P W _) nn110 rfl rfl ?_
  refine r_iload_n 179 1 dX9_assign_178 rfl rfl rfl ?_
  refine r_aload_n 180 0 dX9_assign_179 rfl rfl rfl ?_
  refine r_get 183 (aR 190) dX9_assign_180 fkX9_12 (fun _ => dsC_160 P W _) nn160 rfl rfl ?_
  refine r_get 186 (aR 195) dX9_assign_183 fkX9_193 (fun _ => dsC_190 P W _) nn190 rfl rfl ?_
  refine r_iload_n 187 2 dX9_assign_186 rfl rfl rfl ?_
  refine r_iald 188 dX9_assign_187 (fun _ _ _ => dsC_195 P W _) (fun _ _ => nn195) rfl ?_
  refine r_iast 189 dX9_assign_188 (fun _ _ _ => dsC_112 P W _) (fun _ _ => nn112) rfl ?_
  refine ss_tk (fun G7 => ?_)
  exact r_return dX9_assign_189 rfl
theorem s_Ck_assign_b146 (P W : Int) (x1 : Int) (x2 : Int) (s0 : Int) (s1 : Int) (s2 : Int) (s3 : Int) (G : St) : SS (MCk_assign P W) some 146 [(0, aR 160), (1, aI x1), (2, aI x2)] [aI s0, aI s1, aI s2, aI s3, aR 114] G (Ck_assign_b146 x1 x2 s0 s1 s2 s3 G) := by
  refine r_imul 147 dX9_assign_146 rfl ?_
  refine r_iadd 148 dX9_assign_147 rfl ?_
  refine r_aload_n 149 0 dX9_assign_148 rfl rfl rfl ?_
  refine r_get 152 (aR 190) dX9_assign_149 fkX9_12 (fun _ => dsC_160 P W _) nn160 rfl rfl ?_
  refine r_get 155 (aR 193) dX9_assign_152 fkX9_192 (fun _ => dsC_190 P W _) nn190 rfl rfl ?_
  refine r_iload_n 156 2 dX9_assign_155 rfl rfl rfl ?_
  refine r_iald 157 dX9_assign_156 (fun _ _ _ => dsC_193 P W _) (fun _ _ => nn193) rfl ?_
  refine r_iadd 158 dX9_assign_157 rfl ?_
  refine r_goto 170 dX9_assign_158 rfl ?_
  exact s_Ck_assign_b170 P W x1 x2 ((s2 + (s1 * s0)) + (G 193 x2)) s3 G
theorem s_Ck_assign_b103 (P W : Int) (x1 : Int) (x2 : Int) (x3 : Int) (G : St) : SS (MCk_assign P W) some 103 [(0, aR 160), (1, aI x1), (2, aI x2), (3, aI x3)] [] G (Ck_assign_b103 x1 x2 x3 G) := by
  refine r_aload_n 104 0 dX9_assign_103 rfl rfl rfl ?_
  refine r_get 107 (aR 110) dX9_assign_104 fkX9_48 (fun _ => dsC_160 P W _) nn160 rfl rfl ?_
  refine r_get 110 (aR 114) dX9_assign_107 fkX9_143 (fun _ => dsC_110 P W _) nn110 rfl rfl ?_
  refine r_iload_n 111 1 dX9_assign_110 rfl rfl rfl ?_
  refine r_iload_n 112 3 dX9_assign_111 rfl rfl rfl ?_
  refine r_if_eq 161 115 dX9_assign_112 rfl rfl ?_ ?_
  · refine r_aload_n 162 0 dX9_assign_161 rfl rfl rfl ?_
    refine r_get 165 (aR 190) dX9_assign_162 fkX9_12 (fun _ => dsC_160 P W _) nn160 rfl rfl ?_
    refine r_get 168 (aR 193) dX9_assign_165 fkX9_192 (fun _ => dsC_190 P W _) nn190 rfl rfl ?_
    refine r_iload_n 169 2 dX9_assign_168 rfl rfl rfl ?_
    refine r_iald 170 dX9_assign_169 (fun _ _ _ => dsC_193 P W _) (fun _ _ => nn193) rfl ?_
    refine r_to [0, 1, 2] [(0, aR 160), (1, aI x1), (2, aI x2)] rfl ?_
    exact s_Ck_assign_b170 P W x1 x2 (G 193 x2) x1 G
  · refine r_sipush 118 512 dX9_assign_115 rfl rfl ?_
    refine r_aload_n 119 0 dX9_assign_118 rfl rfl rfl ?_
    refine r_get 122 (aR 190) dX9_assign_119 fkX9_12 (fun _ => dsC_160 P W _) nn160 rfl rfl ?_
    refine r_get 125 (aR 194) dX9_assign_122 fkX9_189 (fun _ => dsC_190 P W _) nn190 rfl rfl ?_
    refine r_iload_n 126 2 dX9_assign_125 rfl rfl rfl ?_
    refine r_iald 127 dX9_assign_126 (fun _ _ _ => dsC_194 P W _) (fun _ _ => nn194) rfl ?_
    refine r_imul 128 dX9_assign_127 rfl ?_
    refine r_iconst 129 2 dX9_assign_128 rfl rfl ?_
    refine r_aload_n 130 0 dX9_assign_129 rfl rfl rfl ?_
    refine r_get 133 (aR 163) dX9_assign_130 fkX9_25 (fun _ => dsC_160 P W _) nn160 rfl rfl ?_
    refine r_aload_n 134 0 dX9_assign_133 rfl rfl rfl ?_
    refine r_get 137 (aI (G 160 6)) dX9_assign_134 fkX9_56 (fun _ => dsC_160 P W _) nn160 rfl rfl ?_
    refine r_zald 138 dX9_assign_137 (fun _ _ _ => dsC_163 P W _) (fun _ _ => nn163) rfl ?_
    refine SS.phi (fun VV_ => Ck_assign_b146 x1 x2 VV_ 2 (512 * (G 194 x2)) x1 G) ?_
    refine r_if_eq 145 141 dX9_assign_138 rfl rfl ?_ ?_
    · refine r_iconst 146 0 dX9_assign_145 rfl rfl ?_
      refine r_to [0, 1, 2] [(0, aR 160), (1, aI x1), (2, aI x2)] rfl ?_
      exact s_Ck_assign_b146 P W x1 x2 0 2 (512 * (G 194 x2)) x1 G
    · refine r_iconst 142 1 dX9_assign_141 rfl rfl ?_
      refine r_goto 146 dX9_assign_142 rfl ?_
      refine r_to [0, 1, 2] [(0, aR 160), (1, aI x1), (2, aI x2)] rfl ?_
      exact s_Ck_assign_b146 P W x1 x2 1 2 (512 * (G 194 x2)) x1 G
theorem s_Ck_assign_b88 (P W : Int) (x1 : Int) (x2 : Int) (s0 : Int) (G : St) : SS (MCk_assign P W) some 88 [(0, aR 160), (1, aI x1), (2, aI x2)] [aI s0] G (Ck_assign_b88 x1 x2 s0 G) := by
  refine r_istore_n 89 [(3, aI s0), (0, aR 160), (1, aI x1), (2, aI x2)] dX9_assign_88 rfl rfl rfl rfl ?_
  refine r_iload_n 90 0 dX9_assign_89 rfl rfl rfl ?_
  refine r_if_eq 103 93 dX9_assign_90 rfl rfl ?_ ?_
  · refine r_to [1, 2, 3, 0] [(0, aR 160), (1, aI x1), (2, aI x2), (3, aI s0)] rfl ?_
    exact s_Ck_assign_b103 P W x1 x2 s0 G
  · refine r_aload_n 94 1 dX9_assign_93 rfl rfl rfl ?_
    refine r_dup 95 dX9_assign_94 rfl rfl ?_
    refine r_get 98 (aI (G 160 6)) dX9_assign_95 fkX9_56 (fun _ => dsC_160 P W _) nn160 rfl rfl ?_
    refine r_iconst 99 1 dX9_assign_98 rfl rfl ?_
    refine r_isub 100 dX9_assign_99 rfl ?_
    refine r_putI 103 dX9_assign_100 fkX9_56 (fun _ => dsC_160 P W _) nn160 rfl rfl ?_
    refine ss_tk (fun G8 => ?_)
    refine r_to [1, 2, 3, 0] [(0, aR 160), (1, aI x1), (2, aI x2), (3, aI s0)] rfl ?_
    exact s_Ck_assign_b103 P W x1 x2 s0 G8
theorem s_Ck_assign_b58 (P W : Int) (x1 : Int) (x2 : Int) (s0 : Int) (G : St) : SS (MCk_assign P W) some 58 [(0, aR 160), (1, aI x1), (2, aI x2)] [aI s0, aR 160] G (Ck_assign_b58 x1 x2 s0 G) := by
  refine r_aload_n 59 0 dX9_assign_58 rfl rfl rfl ?_
  refine r_get 62 (aR 162) dX9_assign_59 fkX9_22 (fun _ => dsC_160 P W _) nn160 rfl rfl ?_
  refine r_aload_n 63 0 dX9_assign_62 rfl rfl rfl ?_
  refine r_get 66 (aI (G 160 6)) dX9_assign_63 fkX9_56 (fun _ => dsC_160 P W _) nn160 rfl rfl ?_
  refine r_iald 67 dX9_assign_66 (fun _ _ _ => dsC_162 P W _) (fun _ _ => nn162) rfl ?_
  refine r_callvV 70 (Mc := MCk_need P W) (o := 160) (as := [aI s0, aI (G 162 (G 160 6))]) (st := []) dX9_assign_67 rfl (c_Ck_need P W s0 (G 162 (G 160 6)) G) lkX9_159 (cmCk_need P W) rfl rfl rfl (fun _ => dsC_160 P W _) nn160 rfl (Nat.le_of_ble_eq_true rfl) (Nat.le_of_ble_eq_true rfl) (fun _ => rfl) rfl (fun z4 G5 => ?_)
  refine r_aload_n 71 0 dX9_assign_70 rfl rfl rfl ?_
  refine r_get 74 (aR 110) dX9_assign_71 fkX9_48 (fun _ => dsC_160 P W _) nn160 rfl rfl ?_
  refine r_get 77 (aR 114) dX9_assign_74 fkX9_143 (fun _ => dsC_110 P W _) nn110 rfl rfl ?_
  refine r_iload_n 78 1 dX9_assign_77 rfl rfl rfl ?_
  refine r_iald 79 dX9_assign_78 (fun _ _ _ => dsC_114 P W _) (fun _ _ => nn114) rfl ?_
  refine r_iconst 80 1 dX9_assign_79 rfl rfl ?_
  refine SS.phi (fun VV_ => Ck_assign_b88 x1 x2 VV_ G5) ?_
  refine r_icmp_ne 87 83 dX9_assign_80 rfl rfl ?_ ?_
  · refine r_iconst 88 0 dX9_assign_87 rfl rfl ?_
    exact s_Ck_assign_b88 P W x1 x2 0 G5
  · refine r_iconst 84 1 dX9_assign_83 rfl rfl ?_
    refine r_goto 88 dX9_assign_84 rfl ?_
    exact s_Ck_assign_b88 P W x1 x2 1 G5
theorem s_Ck_assign (P W : Int) (x1 : Int) (G : St) : SS (MCk_assign P W) some 0 [(0, aR 160), (1, aI x1)] [] G (Ck_assign x1 G) := by
  refine r_aload_n 1 0 dX9_assign_0 rfl rfl rfl ?_
  refine r_get 4 (aR 190) dX9_assign_1 fkX9_12 (fun _ => dsC_160 P W _) nn160 rfl rfl ?_
  refine r_aload_n 5 0 dX9_assign_4 rfl rfl rfl ?_
  refine r_get 8 (aR 110) dX9_assign_5 fkX9_48 (fun _ => dsC_160 P W _) nn160 rfl rfl ?_
  refine r_get 11 (aR 112) dX9_assign_8 fkX9_133 (fun _ => dsC_110 P W _) nn110 rfl rfl ?_
  refine r_iload_n 12 1 dX9_assign_11 rfl rfl rfl ?_
  refine r_iald 13 dX9_assign_12 (fun _ _ _ => dsC_112 P W _) (fun _ _ => nn112) rfl ?_
  refine r_aload_n 14 0 dX9_assign_13 rfl rfl rfl ?_
  refine r_get 17 (aI (G 160 13)) dX9_assign_14 fkX9_65 (fun _ => dsC_160 P W _) nn160 rfl rfl ?_
  refine r_callvI 20 (Mc := MSc_find P W) (o := 190) (as := [aI (G 112 x1), aI (G 160 13)]) (st := []) dX9_assign_17 rfl (c_Sc_find P W (G 112 x1) (G 160 13) G) lkX9_68 (cmSc_find P W) rfl rfl rfl (fun _ => dsC_190 P W _) nn190 rfl (Nat.le_of_ble_eq_true rfl) (Nat.le_of_ble_eq_true rfl) (fun _ => rfl) rfl (fun z1 G2 => ?_)
  refine r_istore_n 21 [(2, aI z1), (0, aR 160), (1, aI x1)] dX9_assign_20 rfl rfl rfl rfl ?_
  refine r_aload_n 22 1 dX9_assign_21 rfl rfl rfl ?_
  refine r_dup 23 dX9_assign_22 rfl rfl ?_
  refine r_get 26 (aI (G2 160 6)) dX9_assign_23 fkX9_56 (fun _ => dsC_160 P W _) nn160 rfl rfl ?_
  refine r_iconst 27 1 dX9_assign_26 rfl rfl ?_
  refine r_isub 28 dX9_assign_27 rfl ?_
  refine r_putI 31 dX9_assign_28 fkX9_56 (fun _ => dsC_160 P W _) nn160 rfl rfl ?_
  refine ss_tk (fun G3 => ?_)
  refine r_aload_n 32 1 dX9_assign_31 rfl rfl rfl ?_
  refine r_aload_n 33 1 dX9_assign_32 rfl rfl rfl ?_
  refine r_get 36 (aR 161) dX9_assign_33 fkX9_18 (fun _ => dsC_160 P W _) nn160 rfl rfl ?_
  refine r_aload_n 37 1 dX9_assign_36 rfl rfl rfl ?_
  refine r_get 40 (aI (G3 160 6)) dX9_assign_37 fkX9_56 (fun _ => dsC_160 P W _) nn160 rfl rfl ?_
  refine r_iald 41 dX9_assign_40 (fun _ _ _ => dsC_161 P W _) (fun _ _ => nn161) rfl ?_
  refine r_aload_n 42 1 dX9_assign_41 rfl rfl rfl ?_
  refine r_get 45 (aR 190) dX9_assign_42 fkX9_12 (fun _ => dsC_160 P W _) nn160 rfl rfl ?_
  refine r_get 48 (aR 193) dX9_assign_45 fkX9_192 (fun _ => dsC_190 P W _) nn190 rfl rfl ?_
  refine r_iload_n 49 0 dX9_assign_48 rfl rfl rfl ?_
  refine r_iald 50 dX9_assign_49 (fun _ _ _ => dsC_193 P W _) (fun _ _ => nn193) rfl ?_
  refine SS.phi (fun VV_ => Ck_assign_b58 x1 z1 VV_ G3) ?_
  refine r_icmp_ne 57 53 dX9_assign_50 rfl rfl ?_ ?_
  · refine r_iconst 58 0 dX9_assign_57 rfl rfl ?_
    refine r_to [1, 2, 0] [(0, aR 160), (1, aI x1), (2, aI z1)] rfl ?_
    exact s_Ck_assign_b58 P W x1 z1 0 G3
  · refine r_iconst 54 1 dX9_assign_53 rfl rfl ?_
    refine r_goto 58 dX9_assign_54 rfl ?_
    refine r_to [1, 2, 0] [(0, aR 160), (1, aI x1), (2, aI z1)] rfl ?_
    exact s_Ck_assign_b58 P W x1 z1 1 G3
theorem c_Ck_assign (P W : Int) (x1 : Int) (G : St) : MG (MCk_assign P W) [aR 160, aI x1] G (Ck_assign x1 G) := MG.of plX9 (Nat.le_of_ble_eq_true rfl) (s_Ck_assign P W x1 G)
theorem s_Ck_comesIn (P W : Int) (x1 : Int) (x2 : Int) (G : St) : SS (MCk_comesIn P W) some 0 [(0, aR 160), (1, aI x1), (2, aI x2)] [] G (Ck_comesIn x1 x2 G) := by
  refine r_aload_n 1 0 dX9_comesIn_0 rfl rfl rfl ?_
  refine r_get 4 (aR 190) dX9_comesIn_1 fkX9_12 (fun _ => dsC_160 P W _) nn160 rfl rfl ?_
  refine r_iload_n 5 1 dX9_comesIn_4 rfl rfl rfl ?_
  refine r_aload_n 6 0 dX9_comesIn_5 rfl rfl rfl ?_
  refine r_get 9 (aI (G 160 13)) dX9_comesIn_6 fkX9_65 (fun _ => dsC_160 P W _) nn160 rfl rfl ?_
  refine r_callvI 12 (Mc := MSc_find P W) (o := 190) (as := [aI x1, aI (G 160 13)]) (st := []) dX9_comesIn_9 rfl (c_Sc_find P W x1 (G 160 13) G) lkX9_68 (cmSc_find P W) rfl rfl rfl (fun _ => dsC_190 P W _) nn190 rfl (Nat.le_of_ble_eq_true rfl) (Nat.le_of_ble_eq_true rfl) (fun _ => rfl) rfl (fun z1 G2 => ?_)
  refine r_iconst 13 (-1) dX9_comesIn_12 rfl rfl ?_
  refine r_icmp_eq 25 16 dX9_comesIn_13 rfl rfl ?_ ?_
  · exact r_return dX9_comesIn_25 rfl
  · refine r_aload_n 17 0 dX9_comesIn_16 rfl rfl rfl ?_
    refine r_get 20 (aR 130) dX9_comesIn_17 fkX9_52 (fun _ => dsC_160 P W _) nn160 rfl rfl ?_
    refine r_iconst 21 4 dX9_comesIn_20 rfl rfl ?_
    refine r_iload_n 22 2 dX9_comesIn_21 rfl rfl rfl ?_
    refine r_callvV 25 (Mc := MFt_set P W) (o := 130) (as := [aI 4, aI x2]) (st := []) dX9_comesIn_22 rfl (c_Ft_set P W 4 x2 G2) lkX9_59 (cmFt_set P W) rfl rfl rfl (fun _ => dsC_130 P W _) nn130 rfl (Nat.le_of_ble_eq_true rfl) (Nat.le_of_ble_eq_true rfl) (fun _ => rfl) rfl (fun z3 G4 => ?_)
    exact r_return dX9_comesIn_25 rfl
theorem c_Ck_comesIn (P W : Int) (x1 : Int) (x2 : Int) (G : St) : MG (MCk_comesIn P W) [aR 160, aI x1, aI x2] G (Ck_comesIn x1 x2 G) := MG.of plX9 (Nat.le_of_ble_eq_true rfl) (s_Ck_comesIn P W x1 x2 G)
theorem s_Sc_add (P W : Int) (x1 : Int) (x2 : Int) (x3 : Int) (x4 : Int) (x5 : Int) (G : St) : SS (MSc_add P W) some 0 [(0, aR 190), (1, aI x1), (2, aI x2), (3, aI x3), (4, aI x4), (5, aI x5)] [] G (Sc_add x1 x2 x3 x4 x5 G) := by
  refine r_aload_n 1 0 dX10_add_0 rfl rfl rfl ?_
  refine r_get 4 (aR 191) dX10_add_1 fkX10_9 (fun _ => dsC_190 P W _) nn190 rfl rfl ?_
  refine r_aload_n 5 0 dX10_add_4 rfl rfl rfl ?_
  refine r_get 8 (aI (G 190 5)) dX10_add_5 fkX10_27 (fun _ => dsC_190 P W _) nn190 rfl rfl ?_
  refine r_iload_n 9 1 dX10_add_8 rfl rfl rfl ?_
  refine r_iast 10 dX10_add_9 (fun _ _ _ => dsC_191 P W _) (fun _ _ => nn191) rfl ?_
  refine ss_tk (fun G1 => ?_)
  refine r_aload_n 11 0 dX10_add_10 rfl rfl rfl ?_
  refine r_get 14 (aR 192) dX10_add_11 fkX10_15 (fun _ => dsC_190 P W _) nn190 rfl rfl ?_
  refine r_aload_n 15 0 dX10_add_14 rfl rfl rfl ?_
  refine r_get 18 (aI (G1 190 5)) dX10_add_15 fkX10_27 (fun _ => dsC_190 P W _) nn190 rfl rfl ?_
  refine r_iload_n 19 2 dX10_add_18 rfl rfl rfl ?_
  refine r_iast 20 dX10_add_19 (fun _ _ _ => dsC_192 P W _) (fun _ _ => nn192) rfl ?_
  refine ss_tk (fun G2 => ?_)
  refine r_aload_n 21 0 dX10_add_20 rfl rfl rfl ?_
  refine r_get 24 (aR 193) dX10_add_21 fkX10_18 (fun _ => dsC_190 P W _) nn190 rfl rfl ?_
  refine r_aload_n 25 0 dX10_add_24 rfl rfl rfl ?_
  refine r_get 28 (aI (G2 190 5)) dX10_add_25 fkX10_27 (fun _ => dsC_190 P W _) nn190 rfl rfl ?_
  refine r_iload_n 29 3 dX10_add_28 rfl rfl rfl ?_
  refine r_iast 30 dX10_add_29 (fun _ _ _ => dsC_193 P W _) (fun _ _ => nn193) rfl ?_
  refine ss_tk (fun G3 => ?_)
  refine r_aload_n 31 0 dX10_add_30 rfl rfl rfl ?_
  refine r_get 34 (aR 194) dX10_add_31 fkX10_21 (fun _ => dsC_190 P W _) nn190 rfl rfl ?_
  refine r_aload_n 35 0 dX10_add_34 rfl rfl rfl ?_
  refine r_get 38 (aI (G3 190 5)) dX10_add_35 fkX10_27 (fun _ => dsC_190 P W _) nn190 rfl rfl ?_
  refine r_iload 40 4 dX10_add_38 rfl rfl ?_
  refine r_iast 41 dX10_add_40 (fun _ _ _ => dsC_194 P W _) (fun _ _ => nn194) rfl ?_
  refine ss_tk (fun G4 => ?_)
  refine r_aload_n 42 0 dX10_add_41 rfl rfl rfl ?_
  refine r_get 45 (aR 195) dX10_add_42 fkX10_24 (fun _ => dsC_190 P W _) nn190 rfl rfl ?_
  refine r_aload_n 46 0 dX10_add_45 rfl rfl rfl ?_
  refine r_get 49 (aI (G4 190 5)) dX10_add_46 fkX10_27 (fun _ => dsC_190 P W _) nn190 rfl rfl ?_
  refine r_iload 51 5 dX10_add_49 rfl rfl ?_
  refine r_iast 52 dX10_add_51 (fun _ _ _ => dsC_195 P W _) (fun _ _ => nn195) rfl ?_
  refine ss_tk (fun G5 => ?_)
  refine r_aload_n 53 0 dX10_add_52 rfl rfl rfl ?_
  refine r_dup 54 dX10_add_53 rfl rfl ?_
  refine r_get 57 (aI (G5 190 5)) dX10_add_54 fkX10_27 (fun _ => dsC_190 P W _) nn190 rfl rfl ?_
  refine r_iconst 58 1 dX10_add_57 rfl rfl ?_
  refine r_iadd 59 dX10_add_58 rfl ?_
  refine r_putI 62 dX10_add_59 fkX10_27 (fun _ => dsC_190 P W _) nn190 rfl rfl ?_
  refine ss_tk (fun G6 => ?_)
  exact r_return dX10_add_62 rfl
theorem c_Sc_add (P W : Int) (x1 : Int) (x2 : Int) (x3 : Int) (x4 : Int) (x5 : Int) (G : St) : MG (MSc_add P W) [aR 190, aI x1, aI x2, aI x3, aI x4, aI x5] G (Sc_add x1 x2 x3 x4 x5 G) := MG.of plX10 (Nat.le_of_ble_eq_true rfl) (s_Sc_add P W x1 x2 x3 x4 x5 G)
theorem s_Ck_endDef_b37 (P W : Int) (x1 : Int) (s0 : Int) (G : St) : SS (MCk_endDef P W) some 37 [(0, aR 160), (1, aI x1)] [aI s0, aR 160] G (Ck_endDef_b37 x1 s0 G) := by
  refine r_aload_n 38 0 dX9_endDef_37 rfl rfl rfl ?_
  refine r_get 41 (aR 162) dX9_endDef_38 fkX9_22 (fun _ => dsC_160 P W _) nn160 rfl rfl ?_
  refine r_aload_n 42 0 dX9_endDef_41 rfl rfl rfl ?_
  refine r_get 45 (aI (G 160 6)) dX9_endDef_42 fkX9_56 (fun _ => dsC_160 P W _) nn160 rfl rfl ?_
  refine r_iald 46 dX9_endDef_45 (fun _ _ _ => dsC_162 P W _) (fun _ _ => nn162) rfl ?_
  refine r_callvV 49 (Mc := MCk_need P W) (o := 160) (as := [aI s0, aI (G 162 (G 160 6))]) (st := []) dX9_endDef_46 rfl (c_Ck_need P W s0 (G 162 (G 160 6)) G) lkX9_159 (cmCk_need P W) rfl rfl rfl (fun _ => dsC_160 P W _) nn160 rfl (Nat.le_of_ble_eq_true rfl) (Nat.le_of_ble_eq_true rfl) (fun _ => rfl) rfl (fun z2 G3 => ?_)
  refine r_aload_n 50 0 dX9_endDef_49 rfl rfl rfl ?_
  refine r_get 53 (aR 190) dX9_endDef_50 fkX9_12 (fun _ => dsC_160 P W _) nn160 rfl rfl ?_
  refine r_aload_n 54 0 dX9_endDef_53 rfl rfl rfl ?_
  refine r_get 57 (aI (G3 160 13)) dX9_endDef_54 fkX9_65 (fun _ => dsC_160 P W _) nn160 rfl rfl ?_
  refine r_putI 60 dX9_endDef_57 fkX9_72 (fun _ => dsC_190 P W _) nn190 rfl rfl ?_
  refine ss_tk (fun G4 => ?_)
  refine r_aload_n 61 0 dX9_endDef_60 rfl rfl rfl ?_
  refine r_iconst 62 (-1) dX9_endDef_61 rfl rfl ?_
  refine r_putI 65 dX9_endDef_62 fkX9_65 (fun _ => dsC_160 P W _) nn160 rfl rfl ?_
  refine ss_tk (fun G5 => ?_)
  refine r_aload_n 66 0 dX9_endDef_65 rfl rfl rfl ?_
  refine r_get 69 (aR 165) dX9_endDef_66 fkX9_32 (fun _ => dsC_160 P W _) nn160 rfl rfl ?_
  refine r_aload_n 70 0 dX9_endDef_69 rfl rfl rfl ?_
  refine r_get 73 (aI (G5 160 18)) dX9_endDef_70 fkX9_90 (fun _ => dsC_160 P W _) nn160 rfl rfl ?_
  refine r_aload_n 74 0 dX9_endDef_73 rfl rfl rfl ?_
  refine r_get 77 (aR 110) dX9_endDef_74 fkX9_48 (fun _ => dsC_160 P W _) nn160 rfl rfl ?_
  refine r_get 80 (aR 114) dX9_endDef_77 fkX9_143 (fun _ => dsC_110 P W _) nn110 rfl rfl ?_
  refine r_iload_n 81 1 dX9_endDef_80 rfl rfl rfl ?_
  refine r_iald 82 dX9_endDef_81 (fun _ _ _ => dsC_114 P W _) (fun _ _ => nn114) rfl ?_
  refine r_iast 83 dX9_endDef_82 (fun _ _ _ => dsC_165 P W _) (fun _ _ => nn165) rfl ?_
  refine ss_tk (fun G6 => ?_)
  refine r_aload_n 84 0 dX9_endDef_83 rfl rfl rfl ?_
  refine r_get 87 (aR 190) dX9_endDef_84 fkX9_12 (fun _ => dsC_160 P W _) nn160 rfl rfl ?_
  refine r_aload_n 88 0 dX9_endDef_87 rfl rfl rfl ?_
  refine r_get 91 (aR 110) dX9_endDef_88 fkX9_48 (fun _ => dsC_160 P W _) nn160 rfl rfl ?_
  refine r_get 94 (aR 112) dX9_endDef_91 fkX9_133 (fun _ => dsC_110 P W _) nn110 rfl rfl ?_
  refine r_iload_n 95 1 dX9_endDef_94 rfl rfl rfl ?_
  refine r_iald 96 dX9_endDef_95 (fun _ _ _ => dsC_112 P W _) (fun _ _ => nn112) rfl ?_
  refine r_iconst 97 4 dX9_endDef_96 rfl rfl ?_
  refine r_aload_n 98 0 dX9_endDef_97 rfl rfl rfl ?_
  refine r_get 101 (aR 110) dX9_endDef_98 fkX9_48 (fun _ => dsC_160 P W _) nn160 rfl rfl ?_
  refine r_get 104 (aR 114) dX9_endDef_101 fkX9_143 (fun _ => dsC_110 P W _) nn110 rfl rfl ?_
  refine r_iload_n 105 1 dX9_endDef_104 rfl rfl rfl ?_
  refine r_iald 106 dX9_endDef_105 (fun _ _ _ => dsC_114 P W _) (fun _ _ => nn114) rfl ?_
  refine r_iconst 107 0 dX9_endDef_106 rfl rfl ?_
  refine r_aload_n 108 0 dX9_endDef_107 rfl rfl rfl ?_
  refine r_get 111 (aI (G6 160 18)) dX9_endDef_108 fkX9_90 (fun _ => dsC_160 P W _) nn160 rfl rfl ?_
  refine r_callvV 114 (Mc := MSc_add P W) (o := 190) (as := [aI (G6 112 x1), aI 4, aI (G6 114 x1), aI 0, aI (G6 160 18)]) (st := []) dX9_endDef_111 rfl (c_Sc_add P W (G6 112 x1) 4 (G6 114 x1) 0 (G6 160 18) G6) lkX9_146 (cmSc_add P W) rfl rfl rfl (fun _ => dsC_190 P W _) nn190 rfl (Nat.le_of_ble_eq_true rfl) (Nat.le_of_ble_eq_true rfl) (fun _ => rfl) rfl (fun z7 G8 => ?_)
  refine r_aload_n 115 0 dX9_endDef_114 rfl rfl rfl ?_
  refine r_get 118 (aR 110) dX9_endDef_115 fkX9_48 (fun _ => dsC_160 P W _) nn160 rfl rfl ?_
  refine r_get 121 (aR 112) dX9_endDef_118 fkX9_133 (fun _ => dsC_110 P W _) nn110 rfl rfl ?_
  refine r_iload_n 122 1 dX9_endDef_121 rfl rfl rfl ?_
  refine r_aload_n 123 0 dX9_endDef_122 rfl rfl rfl ?_
  refine r_get 126 (aI (G8 160 18)) dX9_endDef_123 fkX9_90 (fun _ => dsC_160 P W _) nn160 rfl rfl ?_
  refine r_iast 127 dX9_endDef_126 (fun _ _ _ => dsC_112 P W _) (fun _ _ => nn112) rfl ?_
  refine ss_tk (fun G9 => ?_)
  refine r_aload_n 128 0 dX9_endDef_127 rfl rfl rfl ?_
  refine r_dup 129 dX9_endDef_128 rfl rfl ?_
  refine r_get 132 (aI (G9 160 18)) dX9_endDef_129 fkX9_90 (fun _ => dsC_160 P W _) nn160 rfl rfl ?_
  refine r_iconst 133 1 dX9_endDef_132 rfl rfl ?_
  refine r_iadd 134 dX9_endDef_133 rfl ?_
  refine r_putI 137 dX9_endDef_134 fkX9_90 (fun _ => dsC_160 P W _) nn160 rfl rfl ?_
  refine ss_tk (fun G10 => ?_)
  exact r_return dX9_endDef_137 rfl
theorem s_Ck_endDef (P W : Int) (x1 : Int) (G : St) : SS (MCk_endDef P W) some 0 [(0, aR 160), (1, aI x1)] [] G (Ck_endDef x1 G) := by
  refine r_aload_n 1 0 dX9_endDef_0 rfl rfl rfl ?_
  refine r_dup 2 dX9_endDef_1 rfl rfl ?_
  refine r_get 5 (aI (G 160 6)) dX9_endDef_2 fkX9_56 (fun _ => dsC_160 P W _) nn160 rfl rfl ?_
  refine r_iconst 6 1 dX9_endDef_5 rfl rfl ?_
  refine r_isub 7 dX9_endDef_6 rfl ?_
  refine r_putI 10 dX9_endDef_7 fkX9_56 (fun _ => dsC_160 P W _) nn160 rfl rfl ?_
  refine ss_tk (fun G1 => ?_)
  refine r_aload_n 11 0 dX9_endDef_10 rfl rfl rfl ?_
  refine r_aload_n 12 0 dX9_endDef_11 rfl rfl rfl ?_
  refine r_get 15 (aR 161) dX9_endDef_12 fkX9_18 (fun _ => dsC_160 P W _) nn160 rfl rfl ?_
  refine r_aload_n 16 0 dX9_endDef_15 rfl rfl rfl ?_
  refine r_get 19 (aI (G1 160 6)) dX9_endDef_16 fkX9_56 (fun _ => dsC_160 P W _) nn160 rfl rfl ?_
  refine r_iald 20 dX9_endDef_19 (fun _ _ _ => dsC_161 P W _) (fun _ _ => nn161) rfl ?_
  refine r_aload_n 21 0 dX9_endDef_20 rfl rfl rfl ?_
  refine r_get 24 (aR 110) dX9_endDef_21 fkX9_48 (fun _ => dsC_160 P W _) nn160 rfl rfl ?_
  refine r_get 27 (aR 114) dX9_endDef_24 fkX9_143 (fun _ => dsC_110 P W _) nn110 rfl rfl ?_
  refine r_iload_n 28 1 dX9_endDef_27 rfl rfl rfl ?_
  refine r_iald 29 dX9_endDef_28 (fun _ _ _ => dsC_114 P W _) (fun _ _ => nn114) rfl ?_
  refine SS.phi (fun VV_ => Ck_endDef_b37 x1 VV_ G1) ?_
  refine r_icmp_ne 36 32 dX9_endDef_29 rfl rfl ?_ ?_
  · refine r_iconst 37 0 dX9_endDef_36 rfl rfl ?_
    exact s_Ck_endDef_b37 P W x1 0 G1
  · refine r_iconst 33 1 dX9_endDef_32 rfl rfl ?_
    refine r_goto 37 dX9_endDef_33 rfl ?_
    exact s_Ck_endDef_b37 P W x1 1 G1
theorem c_Ck_endDef (P W : Int) (x1 : Int) (G : St) : MG (MCk_endDef P W) [aR 160, aI x1] G (Ck_endDef x1 G) := MG.of plX9 (Nat.le_of_ble_eq_true rfl) (s_Ck_endDef P W x1 G)
theorem s_Ck_endVar_b78 (P W : Int) (x1 : Int) (x2 : Int) (x3 : Int) (G : St) : SS (MCk_endVar P W) some 78 [(0, aR 160), (1, aI x1), (2, aI x2), (3, aI x3)] [] G (Ck_endVar_b78 x1 x2 x3 G) := by
  refine r_aload_n 79 0 dX9_endVar_78 rfl rfl rfl ?_
  refine r_get 82 (aR 190) dX9_endVar_79 fkX9_12 (fun _ => dsC_160 P W _) nn160 rfl rfl ?_
  refine r_aload_n 83 0 dX9_endVar_82 rfl rfl rfl ?_
  refine r_get 86 (aR 110) dX9_endVar_83 fkX9_48 (fun _ => dsC_160 P W _) nn160 rfl rfl ?_
  refine r_get 89 (aR 112) dX9_endVar_86 fkX9_133 (fun _ => dsC_110 P W _) nn110 rfl rfl ?_
  refine r_iload_n 90 1 dX9_endVar_89 rfl rfl rfl ?_
  refine r_iald 91 dX9_endVar_90 (fun _ _ _ => dsC_112 P W _) (fun _ _ => nn112) rfl ?_
  refine r_iconst 92 1 dX9_endVar_91 rfl rfl ?_
  refine r_iload_n 93 2 dX9_endVar_92 rfl rfl rfl ?_
  refine r_iload_n 94 3 dX9_endVar_93 rfl rfl rfl ?_
  refine r_aload_n 95 0 dX9_endVar_94 rfl rfl rfl ?_
  refine r_get 98 (aI (G 160 9)) dX9_endVar_95 fkX9_78 (fun _ => dsC_160 P W _) nn160 rfl rfl ?_
  refine r_callvV 101 (Mc := MSc_add P W) (o := 190) (as := [aI (G 112 x1), aI 1, aI x2, aI x3, aI (G 160 9)]) (st := []) dX9_endVar_98 rfl (c_Sc_add P W (G 112 x1) 1 x2 x3 (G 160 9) G) lkX9_146 (cmSc_add P W) rfl rfl rfl (fun _ => dsC_190 P W _) nn190 rfl (Nat.le_of_ble_eq_true rfl) (Nat.le_of_ble_eq_true rfl) (fun _ => rfl) rfl (fun z1 G2 => ?_)
  refine r_aload_n 102 0 dX9_endVar_101 rfl rfl rfl ?_
  refine r_get 105 (aR 110) dX9_endVar_102 fkX9_48 (fun _ => dsC_160 P W _) nn160 rfl rfl ?_
  refine r_get 108 (aR 112) dX9_endVar_105 fkX9_133 (fun _ => dsC_110 P W _) nn110 rfl rfl ?_
  refine r_iload_n 109 1 dX9_endVar_108 rfl rfl rfl ?_
  refine r_aload_n 110 0 dX9_endVar_109 rfl rfl rfl ?_
  refine r_get 113 (aI (G2 160 9)) dX9_endVar_110 fkX9_78 (fun _ => dsC_160 P W _) nn160 rfl rfl ?_
  refine r_iast 114 dX9_endVar_113 (fun _ _ _ => dsC_112 P W _) (fun _ _ => nn112) rfl ?_
  refine ss_tk (fun G3 => ?_)
  refine r_aload_n 115 0 dX9_endVar_114 rfl rfl rfl ?_
  refine r_dup 116 dX9_endVar_115 rfl rfl ?_
  refine r_get 119 (aI (G3 160 9)) dX9_endVar_116 fkX9_78 (fun _ => dsC_160 P W _) nn160 rfl rfl ?_
  refine r_iconst 120 1 dX9_endVar_119 rfl rfl ?_
  refine r_iload_n 121 3 dX9_endVar_120 rfl rfl rfl ?_
  refine r_mmax 124 dX9_endVar_121 q1397 (Nat.le_of_ble_eq_true rfl) (Nat.le_of_ble_eq_true rfl) rfl rfl ?_
  refine r_iadd 125 dX9_endVar_124 rfl ?_
  refine r_putI 128 dX9_endVar_125 fkX9_78 (fun _ => dsC_160 P W _) nn160 rfl rfl ?_
  refine ss_tk (fun G4 => ?_)
  exact r_return dX9_endVar_128 rfl
theorem s_Ck_endVar_b66 (P W : Int) (x1 : Int) (x2 : Int) (x3 : Int) (s0 : Int) (G : St) : SS (MCk_endVar P W) some 66 [(0, aR 160), (1, aI x1), (2, aI x2), (3, aI x3)] [aI s0, aR 160] G (Ck_endVar_b66 x1 x2 x3 s0 G) := by
  refine r_aload_n 67 0 dX9_endVar_66 rfl rfl rfl ?_
  refine r_get 70 (aR 162) dX9_endVar_67 fkX9_22 (fun _ => dsC_160 P W _) nn160 rfl rfl ?_
  refine r_aload_n 71 0 dX9_endVar_70 rfl rfl rfl ?_
  refine r_get 74 (aI (G 160 6)) dX9_endVar_71 fkX9_56 (fun _ => dsC_160 P W _) nn160 rfl rfl ?_
  refine r_iald 75 dX9_endVar_74 (fun _ _ _ => dsC_162 P W _) (fun _ _ => nn162) rfl ?_
  refine r_callvV 78 (Mc := MCk_need P W) (o := 160) (as := [aI s0, aI (G 162 (G 160 6))]) (st := []) dX9_endVar_75 rfl (c_Ck_need P W s0 (G 162 (G 160 6)) G) lkX9_159 (cmCk_need P W) rfl rfl rfl (fun _ => dsC_160 P W _) nn160 rfl (Nat.le_of_ble_eq_true rfl) (Nat.le_of_ble_eq_true rfl) (fun _ => rfl) rfl (fun z6 G7 => ?_)
  exact s_Ck_endVar_b78 P W x1 x2 x3 G7
theorem s_Ck_endVar (P W : Int) (x1 : Int) (G : St) : SS (MCk_endVar P W) some 0 [(0, aR 160), (1, aI x1)] [] G (Ck_endVar x1 G) := by
  refine r_aload_n 1 0 dX9_endVar_0 rfl rfl rfl ?_
  refine r_get 4 (aR 110) dX9_endVar_1 fkX9_48 (fun _ => dsC_160 P W _) nn160 rfl rfl ?_
  refine r_get 7 (aR 114) dX9_endVar_4 fkX9_143 (fun _ => dsC_110 P W _) nn110 rfl rfl ?_
  refine r_iload_n 8 1 dX9_endVar_7 rfl rfl rfl ?_
  refine r_iald 9 dX9_endVar_8 (fun _ _ _ => dsC_114 P W _) (fun _ _ => nn114) rfl ?_
  refine r_iconst 10 1 dX9_endVar_9 rfl rfl ?_
  refine r_iand 11 dX9_endVar_10 rfl ?_
  refine r_istore_n 12 [(2, aI (j_an (G 114 x1) 1)), (0, aR 160), (1, aI x1)] dX9_endVar_11 rfl rfl rfl rfl ?_
  refine r_aload_n 13 1 dX9_endVar_12 rfl rfl rfl ?_
  refine r_get 16 (aR 110) dX9_endVar_13 fkX9_48 (fun _ => dsC_160 P W _) nn160 rfl rfl ?_
  refine r_get 19 (aR 114) dX9_endVar_16 fkX9_143 (fun _ => dsC_110 P W _) nn110 rfl rfl ?_
  refine r_iload_n 20 2 dX9_endVar_19 rfl rfl rfl ?_
  refine r_iald 21 dX9_endVar_20 (fun _ _ _ => dsC_114 P W _) (fun _ _ => nn114) rfl ?_
  refine r_iconst 22 2 dX9_endVar_21 rfl rfl ?_
  refine r_idiv 23 dX9_endVar_22 rfl ?_
  refine r_istore_n 24 [(3, aI ((G 114 x1) / 2)), (2, aI (j_an (G 114 x1) 1)), (0, aR 160), (1, aI x1)] dX9_endVar_23 rfl rfl rfl rfl ?_
  refine r_aload_n 25 2 dX9_endVar_24 rfl rfl rfl ?_
  refine r_get 28 (aR 110) dX9_endVar_25 fkX9_48 (fun _ => dsC_160 P W _) nn160 rfl rfl ?_
  refine r_get 31 (aR 113) dX9_endVar_28 fkX9_136 (fun _ => dsC_110 P W _) nn110 rfl rfl ?_
  refine r_iload_n 32 3 dX9_endVar_31 rfl rfl rfl ?_
  refine r_iald 33 dX9_endVar_32 (fun _ _ _ => dsC_113 P W _) (fun _ _ => nn113) rfl ?_
  refine r_iconst 34 1 dX9_endVar_33 rfl rfl ?_
  refine r_icmp_ne 78 37 dX9_endVar_34 rfl rfl ?_ ?_
  · refine r_to [2, 3, 1, 0] [(0, aR 160), (1, aI x1), (2, aI (j_an (G 114 x1) 1)), (3, aI ((G 114 x1) / 2))] rfl ?_
    exact s_Ck_endVar_b78 P W x1 (j_an (G 114 x1) 1) ((G 114 x1) / 2) G
  · refine r_aload_n 38 2 dX9_endVar_37 rfl rfl rfl ?_
    refine r_dup 39 dX9_endVar_38 rfl rfl ?_
    refine r_get 42 (aI (G 160 6)) dX9_endVar_39 fkX9_56 (fun _ => dsC_160 P W _) nn160 rfl rfl ?_
    refine r_iconst 43 1 dX9_endVar_42 rfl rfl ?_
    refine r_isub 44 dX9_endVar_43 rfl ?_
    refine r_putI 47 dX9_endVar_44 fkX9_56 (fun _ => dsC_160 P W _) nn160 rfl rfl ?_
    refine ss_tk (fun G5 => ?_)
    refine r_aload_n 48 2 dX9_endVar_47 rfl rfl rfl ?_
    refine r_aload_n 49 2 dX9_endVar_48 rfl rfl rfl ?_
    refine r_get 52 (aR 161) dX9_endVar_49 fkX9_18 (fun _ => dsC_160 P W _) nn160 rfl rfl ?_
    refine r_aload_n 53 2 dX9_endVar_52 rfl rfl rfl ?_
    refine r_get 56 (aI (G5 160 6)) dX9_endVar_53 fkX9_56 (fun _ => dsC_160 P W _) nn160 rfl rfl ?_
    refine r_iald 57 dX9_endVar_56 (fun _ _ _ => dsC_161 P W _) (fun _ _ => nn161) rfl ?_
    refine r_iload_n 58 1 dX9_endVar_57 rfl rfl rfl ?_
    refine SS.phi (fun VV_ => Ck_endVar_b66 x1 (j_an (G 114 x1) 1) ((G 114 x1) / 2) VV_ G5) ?_
    refine r_icmp_ne 65 61 dX9_endVar_58 rfl rfl ?_ ?_
    · refine r_iconst 66 0 dX9_endVar_65 rfl rfl ?_
      refine r_to [2, 3, 1, 0] [(0, aR 160), (1, aI x1), (2, aI (j_an (G 114 x1) 1)), (3, aI ((G 114 x1) / 2))] rfl ?_
      exact s_Ck_endVar_b66 P W x1 (j_an (G 114 x1) 1) ((G 114 x1) / 2) 0 G5
    · refine r_iconst 62 1 dX9_endVar_61 rfl rfl ?_
      refine r_goto 66 dX9_endVar_62 rfl ?_
      refine r_to [2, 3, 1, 0] [(0, aR 160), (1, aI x1), (2, aI (j_an (G 114 x1) 1)), (3, aI ((G 114 x1) / 2))] rfl ?_
      exact s_Ck_endVar_b66 P W x1 (j_an (G 114 x1) 1) ((G 114 x1) / 2) 1 G5
theorem c_Ck_endVar (P W : Int) (x1 : Int) (G : St) : MG (MCk_endVar P W) [aR 160, aI x1] G (Ck_endVar x1 G) := MG.of plX9 (Nat.le_of_ble_eq_true rfl) (s_Ck_endVar P W x1 G)
theorem s_Ck_input_b123 (P W : Int) (s0 : Int) (s1 : Int) (s2 : Int) (G : St) : SS (MCk_input P W) some 123 [] [aI s0, aI s1, aI s2, aR 160] G (Ck_input_b123 P W s0 s1 s2 G) := by
  refine r_imul 124 dX9_input_123 rfl ?_
  refine r_iadd 125 dX9_input_124 rfl ?_
  refine r_putI 128 dX9_input_125 fkX9_84 (fun _ => dsC_160 P W _) nn160 rfl rfl ?_
  refine ss_tk (fun G7 => ?_)
  exact r_return dX9_input_128 rfl
theorem s_Ck_input (P W : Int) (x1 : Int) (G : St) : SS (MCk_input P W) some 0 [(0, aR 160), (1, aI x1)] [] G (Ck_input P W x1 G) := by
  refine r_aload_n 1 0 dX9_input_0 rfl rfl rfl ?_
  refine r_get 4 (aR 110) dX9_input_1 fkX9_48 (fun _ => dsC_160 P W _) nn160 rfl rfl ?_
  refine r_get 7 (aR 114) dX9_input_4 fkX9_143 (fun _ => dsC_110 P W _) nn110 rfl rfl ?_
  refine r_iload_n 8 1 dX9_input_7 rfl rfl rfl ?_
  refine r_iald 9 dX9_input_8 (fun _ _ _ => dsC_114 P W _) (fun _ _ => nn114) rfl ?_
  refine r_iconst 10 1 dX9_input_9 rfl rfl ?_
  refine r_iand 11 dX9_input_10 rfl ?_
  refine r_istore_n 12 [(2, aI (j_an (G 114 x1) 1)), (0, aR 160), (1, aI x1)] dX9_input_11 rfl rfl rfl rfl ?_
  refine r_aload_n 13 1 dX9_input_12 rfl rfl rfl ?_
  refine r_get 16 (aR 110) dX9_input_13 fkX9_48 (fun _ => dsC_160 P W _) nn160 rfl rfl ?_
  refine r_get 19 (aR 114) dX9_input_16 fkX9_143 (fun _ => dsC_110 P W _) nn110 rfl rfl ?_
  refine r_iload_n 20 2 dX9_input_19 rfl rfl rfl ?_
  refine r_iald 21 dX9_input_20 (fun _ _ _ => dsC_114 P W _) (fun _ _ => nn114) rfl ?_
  refine r_sipush 24 256 dX9_input_21 rfl rfl ?_
  refine r_irem 25 dX9_input_24 rfl ?_
  refine r_iconst 26 2 dX9_input_25 rfl rfl ?_
  refine r_idiv 27 dX9_input_26 rfl ?_
  refine r_istore_n 28 [(3, aI (((G 114 x1) % 256) / 2)), (2, aI (j_an (G 114 x1) 1)), (0, aR 160), (1, aI x1)] dX9_input_27 rfl rfl rfl rfl ?_
  refine r_aload_n 29 2 dX9_input_28 rfl rfl rfl ?_
  refine r_aload_n 30 2 dX9_input_29 rfl rfl rfl ?_
  refine r_get 33 (aR 110) dX9_input_30 fkX9_48 (fun _ => dsC_160 P W _) nn160 rfl rfl ?_
  refine r_get 36 (aR 112) dX9_input_33 fkX9_133 (fun _ => dsC_110 P W _) nn110 rfl rfl ?_
  refine r_iload_n 37 3 dX9_input_36 rfl rfl rfl ?_
  refine r_iald 38 dX9_input_37 (fun _ _ _ => dsC_112 P W _) (fun _ _ => nn112) rfl ?_
  refine r_aload_n 39 2 dX9_input_38 rfl rfl rfl ?_
  refine r_get 42 (aR 110) dX9_input_39 fkX9_48 (fun _ => dsC_160 P W _) nn160 rfl rfl ?_
  refine r_get 45 (aR 113) dX9_input_42 fkX9_136 (fun _ => dsC_110 P W _) nn110 rfl rfl ?_
  refine r_iload_n 46 3 dX9_input_45 rfl rfl rfl ?_
  refine r_iald 47 dX9_input_46 (fun _ _ _ => dsC_113 P W _) (fun _ _ => nn113) rfl ?_
  refine r_callvV 50 (Mc := MCk_comesIn P W) (o := 160) (as := [aI (G 112 x1), aI (G 113 x1)]) (st := []) dX9_input_47 rfl (c_Ck_comesIn P W (G 112 x1) (G 113 x1) G) lkX9_140 (cmCk_comesIn P W) rfl rfl rfl (fun _ => dsC_160 P W _) nn160 rfl (Nat.le_of_ble_eq_true rfl) (Nat.le_of_ble_eq_true rfl) (fun _ => rfl) rfl (fun z1 G2 => ?_)
  refine r_aload_n 51 2 dX9_input_50 rfl rfl rfl ?_
  refine r_get 54 (aR 190) dX9_input_51 fkX9_12 (fun _ => dsC_160 P W _) nn160 rfl rfl ?_
  refine r_aload_n 55 2 dX9_input_54 rfl rfl rfl ?_
  refine r_get 58 (aR 110) dX9_input_55 fkX9_48 (fun _ => dsC_160 P W _) nn160 rfl rfl ?_
  refine r_get 61 (aR 112) dX9_input_58 fkX9_133 (fun _ => dsC_110 P W _) nn110 rfl rfl ?_
  refine r_iload_n 62 3 dX9_input_61 rfl rfl rfl ?_
  refine r_iald 63 dX9_input_62 (fun _ _ _ => dsC_112 P W _) (fun _ _ => nn112) rfl ?_
  refine r_iconst 64 0 dX9_input_63 rfl rfl ?_
  refine r_iload_n 65 1 dX9_input_64 rfl rfl rfl ?_
  refine r_iload_n 66 0 dX9_input_65 rfl rfl rfl ?_
  refine r_aload_n 67 2 dX9_input_66 rfl rfl rfl ?_
  refine r_get 70 (aI (G2 160 10)) dX9_input_67 fkX9_81 (fun _ => dsC_160 P W _) nn160 rfl rfl ?_
  refine r_callvV 73 (Mc := MSc_add P W) (o := 190) (as := [aI (G2 112 x1), aI 0, aI (j_an (G 114 x1) 1), aI (((G 114 x1) % 256) / 2), aI (G2 160 10)]) (st := []) dX9_input_70 rfl (c_Sc_add P W (G2 112 x1) 0 (j_an (G 114 x1) 1) (((G 114 x1) % 256) / 2) (G2 160 10) G2) lkX9_146 (cmSc_add P W) rfl rfl rfl (fun _ => dsC_190 P W _) nn190 rfl (Nat.le_of_ble_eq_true rfl) (Nat.le_of_ble_eq_true rfl) (fun _ => rfl) rfl (fun z3 G4 => ?_)
  refine r_aload_n 74 2 dX9_input_73 rfl rfl rfl ?_
  refine r_get 77 (aR 110) dX9_input_74 fkX9_48 (fun _ => dsC_160 P W _) nn160 rfl rfl ?_
  refine r_get 80 (aR 112) dX9_input_77 fkX9_133 (fun _ => dsC_110 P W _) nn110 rfl rfl ?_
  refine r_iload_n 81 3 dX9_input_80 rfl rfl rfl ?_
  refine r_aload_n 82 2 dX9_input_81 rfl rfl rfl ?_
  refine r_get 85 (aI (G4 160 10)) dX9_input_82 fkX9_81 (fun _ => dsC_160 P W _) nn160 rfl rfl ?_
  refine r_iast 86 dX9_input_85 (fun _ _ _ => dsC_112 P W _) (fun _ _ => nn112) rfl ?_
  refine ss_tk (fun G5 => ?_)
  refine r_aload_n 87 2 dX9_input_86 rfl rfl rfl ?_
  refine r_dup 88 dX9_input_87 rfl rfl ?_
  refine r_get 91 (aI (G5 160 10)) dX9_input_88 fkX9_81 (fun _ => dsC_160 P W _) nn160 rfl rfl ?_
  refine r_iconst 92 1 dX9_input_91 rfl rfl ?_
  refine r_iload_n 93 0 dX9_input_92 rfl rfl rfl ?_
  refine r_mmax 96 dX9_input_93 q1397 (Nat.le_of_ble_eq_true rfl) (Nat.le_of_ble_eq_true rfl) rfl rfl ?_
  refine r_iadd 97 dX9_input_96 rfl ?_
  refine r_putI 100 dX9_input_97 fkX9_81 (fun _ => dsC_160 P W _) nn160 rfl rfl ?_
  refine ss_tk (fun G6 => ?_)
  refine r_aload_n 101 2 dX9_input_100 rfl rfl rfl ?_
  refine r_dup 102 dX9_input_101 rfl rfl ?_
  refine r_get 105 (aI (G6 160 11)) dX9_input_102 fkX9_84 (fun _ => dsC_160 P W _) nn160 rfl rfl ?_
  refine r_iconst 106 1 dX9_input_105 rfl rfl ?_
  refine r_iload_n 107 0 dX9_input_106 rfl rfl rfl ?_
  refine r_mmax 110 dX9_input_107 q1397 (Nat.le_of_ble_eq_true rfl) (Nat.le_of_ble_eq_true rfl) rfl rfl ?_
  refine r_iload_n 111 1 dX9_input_110 rfl rfl rfl ?_
  refine r_iconst 112 1 dX9_input_111 rfl rfl ?_
  refine SS.phi (fun VV_ => Ck_input_b123 P W VV_ (if 1 < (((G 114 x1) % 256) / 2) then (((G 114 x1) % 256) / 2) else 1) (G6 160 11) G6) ?_
  refine r_icmp_ne 119 115 dX9_input_112 rfl rfl ?_ ?_
  · refine r_aload_n 120 2 dX9_input_119 rfl rfl rfl ?_
    refine r_get 123 (aI W) dX9_input_120 fkX9_44 (fun _ => dsC_160 P W _) nn160 rfl rfl ?_
    refine r_to [] [] rfl ?_
    exact s_Ck_input_b123 P W W (if 1 < (((G 114 x1) % 256) / 2) then (((G 114 x1) % 256) / 2) else 1) (G6 160 11) G6
  · refine r_iconst 116 1 dX9_input_115 rfl rfl ?_
    refine r_goto 123 dX9_input_116 rfl ?_
    refine r_to [] [] rfl ?_
    exact s_Ck_input_b123 P W 1 (if 1 < (((G 114 x1) % 256) / 2) then (((G 114 x1) % 256) / 2) else 1) (G6 160 11) G6
theorem c_Ck_input (P W : Int) (x1 : Int) (G : St) : MG (MCk_input P W) [aR 160, aI x1] G (Ck_input P W x1 G) := MG.of plX9 (Nat.le_of_ble_eq_true rfl) (s_Ck_input P W x1 G)
theorem s_Ck_mark (P W : Int) (G : St) : SS (MCk_mark P W) some 0 [(0, aR 160)] [] G (Ck_mark G) := by
  refine r_aload_n 1 0 dX9_mark_0 rfl rfl rfl ?_
  refine r_get 4 (aR 164) dX9_mark_1 fkX9_29 (fun _ => dsC_160 P W _) nn160 rfl rfl ?_
  refine r_iconst 5 2 dX9_mark_4 rfl rfl ?_
  refine r_aload_n 6 0 dX9_mark_5 rfl rfl rfl ?_
  refine r_get 9 (aI (G 160 8)) dX9_mark_6 fkX9_75 (fun _ => dsC_160 P W _) nn160 rfl rfl ?_
  refine r_imul 10 dX9_mark_9 rfl ?_
  refine r_aload_n 11 0 dX9_mark_10 rfl rfl rfl ?_
  refine r_get 14 (aR 190) dX9_mark_11 fkX9_12 (fun _ => dsC_160 P W _) nn160 rfl rfl ?_
  refine r_get 17 (aI (G 190 5)) dX9_mark_14 fkX9_72 (fun _ => dsC_190 P W _) nn190 rfl rfl ?_
  refine r_iast 18 dX9_mark_17 (fun _ _ _ => dsC_164 P W _) (fun _ _ => nn164) rfl ?_
  refine ss_tk (fun G1 => ?_)
  refine r_aload_n 19 0 dX9_mark_18 rfl rfl rfl ?_
  refine r_get 22 (aR 164) dX9_mark_19 fkX9_29 (fun _ => dsC_160 P W _) nn160 rfl rfl ?_
  refine r_iconst 23 2 dX9_mark_22 rfl rfl ?_
  refine r_aload_n 24 0 dX9_mark_23 rfl rfl rfl ?_
  refine r_get 27 (aI (G1 160 8)) dX9_mark_24 fkX9_75 (fun _ => dsC_160 P W _) nn160 rfl rfl ?_
  refine r_imul 28 dX9_mark_27 rfl ?_
  refine r_iconst 29 1 dX9_mark_28 rfl rfl ?_
  refine r_iadd 30 dX9_mark_29 rfl ?_
  refine r_aload_n 31 0 dX9_mark_30 rfl rfl rfl ?_
  refine r_get 34 (aI (G1 160 9)) dX9_mark_31 fkX9_78 (fun _ => dsC_160 P W _) nn160 rfl rfl ?_
  refine r_iast 35 dX9_mark_34 (fun _ _ _ => dsC_164 P W _) (fun _ _ => nn164) rfl ?_
  refine ss_tk (fun G2 => ?_)
  refine r_aload_n 36 0 dX9_mark_35 rfl rfl rfl ?_
  refine r_dup 37 dX9_mark_36 rfl rfl ?_
  refine r_get 40 (aI (G2 160 8)) dX9_mark_37 fkX9_75 (fun _ => dsC_160 P W _) nn160 rfl rfl ?_
  refine r_iconst 41 1 dX9_mark_40 rfl rfl ?_
  refine r_iadd 42 dX9_mark_41 rfl ?_
  refine r_putI 45 dX9_mark_42 fkX9_75 (fun _ => dsC_160 P W _) nn160 rfl rfl ?_
  refine ss_tk (fun G3 => ?_)
  exact r_return dX9_mark_45 rfl
theorem c_Ck_mark (P W : Int) (G : St) : MG (MCk_mark P W) [aR 160] G (Ck_mark G) := MG.of plX9 (Nat.le_of_ble_eq_true rfl) (s_Ck_mark P W G)
theorem s_Ck_release (P W : Int) (G : St) : SS (MCk_release P W) some 0 [(0, aR 160)] [] G (Ck_release G) := by
  refine r_aload_n 1 0 dX9_release_0 rfl rfl rfl ?_
  refine r_dup 2 dX9_release_1 rfl rfl ?_
  refine r_get 5 (aI (G 160 8)) dX9_release_2 fkX9_75 (fun _ => dsC_160 P W _) nn160 rfl rfl ?_
  refine r_iconst 6 1 dX9_release_5 rfl rfl ?_
  refine r_isub 7 dX9_release_6 rfl ?_
  refine r_putI 10 dX9_release_7 fkX9_75 (fun _ => dsC_160 P W _) nn160 rfl rfl ?_
  refine ss_tk (fun G1 => ?_)
  refine r_aload_n 11 0 dX9_release_10 rfl rfl rfl ?_
  refine r_get 14 (aR 190) dX9_release_11 fkX9_12 (fun _ => dsC_160 P W _) nn160 rfl rfl ?_
  refine r_aload_n 15 0 dX9_release_14 rfl rfl rfl ?_
  refine r_get 18 (aR 164) dX9_release_15 fkX9_29 (fun _ => dsC_160 P W _) nn160 rfl rfl ?_
  refine r_iconst 19 2 dX9_release_18 rfl rfl ?_
  refine r_aload_n 20 0 dX9_release_19 rfl rfl rfl ?_
  refine r_get 23 (aI (G1 160 8)) dX9_release_20 fkX9_75 (fun _ => dsC_160 P W _) nn160 rfl rfl ?_
  refine r_imul 24 dX9_release_23 rfl ?_
  refine r_iald 25 dX9_release_24 (fun _ _ _ => dsC_164 P W _) (fun _ _ => nn164) rfl ?_
  refine r_putI 28 dX9_release_25 fkX9_72 (fun _ => dsC_190 P W _) nn190 rfl rfl ?_
  refine ss_tk (fun G2 => ?_)
  refine r_aload_n 29 0 dX9_release_28 rfl rfl rfl ?_
  refine r_aload_n 30 0 dX9_release_29 rfl rfl rfl ?_
  refine r_get 33 (aR 164) dX9_release_30 fkX9_29 (fun _ => dsC_160 P W _) nn160 rfl rfl ?_
  refine r_iconst 34 2 dX9_release_33 rfl rfl ?_
  refine r_aload_n 35 0 dX9_release_34 rfl rfl rfl ?_
  refine r_get 38 (aI (G2 160 8)) dX9_release_35 fkX9_75 (fun _ => dsC_160 P W _) nn160 rfl rfl ?_
  refine r_imul 39 dX9_release_38 rfl ?_
  refine r_iconst 40 1 dX9_release_39 rfl rfl ?_
  refine r_iadd 41 dX9_release_40 rfl ?_
  refine r_iald 42 dX9_release_41 (fun _ _ _ => dsC_164 P W _) (fun _ _ => nn164) rfl ?_
  refine r_putI 45 dX9_release_42 fkX9_78 (fun _ => dsC_160 P W _) nn160 rfl rfl ?_
  refine ss_tk (fun G3 => ?_)
  exact r_return dX9_release_45 rfl
theorem c_Ck_release (P W : Int) (G : St) : MG (MCk_release P W) [aR 160] G (Ck_release G) := MG.of plX9 (Nat.le_of_ble_eq_true rfl) (s_Ck_release P W G)
theorem s_Ck_target_b90 (P W : Int) (x1 : Int) (s0 : Int) (G : St) : SS (MCk_target P W) some 90 [(0, aR 160), (1, aI x1)] [aI s0, aR 160] G (Ck_target_b90 x1 s0 G) := by
  refine r_aload_n 91 0 dX9_target_90 rfl rfl rfl ?_
  refine r_get 94 (aR 110) dX9_target_91 fkX9_48 (fun _ => dsC_160 P W _) nn160 rfl rfl ?_
  refine r_get 97 (aR 113) dX9_target_94 fkX9_136 (fun _ => dsC_110 P W _) nn110 rfl rfl ?_
  refine r_iload_n 98 1 dX9_target_97 rfl rfl rfl ?_
  refine r_iald 99 dX9_target_98 (fun _ _ _ => dsC_113 P W _) (fun _ _ => nn113) rfl ?_
  refine r_callvV 102 (Mc := MCk_need P W) (o := 160) (as := [aI s0, aI (G 113 x1)]) (st := []) dX9_target_99 rfl (c_Ck_need P W s0 (G 113 x1) G) lkX9_159 (cmCk_need P W) rfl rfl rfl (fun _ => dsC_160 P W _) nn160 rfl (Nat.le_of_ble_eq_true rfl) (Nat.le_of_ble_eq_true rfl) (fun _ => rfl) rfl (fun z3 G4 => ?_)
  exact r_return dX9_target_102 rfl
theorem s_Ck_target_b81 (P W : Int) (x1 : Int) (x3 : Int) (s0 : Int) (G : St) : SS (MCk_target P W) some 81 [(0, aR 160), (1, aI x1), (3, aI x3)] [aI s0, aR 160] G (Ck_target_b81 x1 x3 s0 G) := by
  refine r_iload_n 82 2 dX9_target_81 rfl rfl rfl ?_
  refine SS.phi (fun VV_ => Ck_target_b90 x1 VV_ G) ?_
  refine r_icmp_ne 89 85 dX9_target_82 rfl rfl ?_ ?_
  · refine r_iconst 90 0 dX9_target_89 rfl rfl ?_
    refine r_to [0, 1] [(0, aR 160), (1, aI x1)] rfl ?_
    exact s_Ck_target_b90 P W x1 0 G
  · refine r_iconst 86 1 dX9_target_85 rfl rfl ?_
    refine r_goto 90 dX9_target_86 rfl ?_
    refine r_to [0, 1] [(0, aR 160), (1, aI x1)] rfl ?_
    exact s_Ck_target_b90 P W x1 1 G
theorem s_Ck_target_b49 (P W : Int) (x1 : Int) (x2 : Int) (s0 : Int) (G : St) : SS (MCk_target P W) some 49 [(0, aR 160), (1, aI x1), (2, aI x2)] [aI s0] G (Ck_target_b49 x1 x2 s0 G) := by
  refine r_istore_n 50 [(3, aI s0), (0, aR 160), (1, aI x1), (2, aI x2)] dX9_target_49 rfl rfl rfl rfl ?_
  refine r_aload_n 51 1 dX9_target_50 rfl rfl rfl ?_
  refine r_aload_n 52 1 dX9_target_51 rfl rfl rfl ?_
  refine r_get 55 (aR 190) dX9_target_52 fkX9_12 (fun _ => dsC_160 P W _) nn160 rfl rfl ?_
  refine r_get 58 (aR 192) dX9_target_55 fkX9_186 (fun _ => dsC_190 P W _) nn190 rfl rfl ?_
  refine r_iload_n 59 3 dX9_target_58 rfl rfl rfl ?_
  refine r_iald 60 dX9_target_59 (fun _ _ _ => dsC_192 P W _) (fun _ _ => nn192) rfl ?_
  refine r_iconst 61 1 dX9_target_60 rfl rfl ?_
  refine r_icmp_ne 89 64 dX9_target_61 rfl rfl ?_ ?_
  · refine r_iconst 90 0 dX9_target_89 rfl rfl ?_
    refine r_to [1, 2] [(0, aR 160), (1, aI x1)] rfl ?_
    exact s_Ck_target_b90 P W x1 0 G
  · refine r_aload_n 65 1 dX9_target_64 rfl rfl rfl ?_
    refine r_get 68 (aR 190) dX9_target_65 fkX9_12 (fun _ => dsC_160 P W _) nn160 rfl rfl ?_
    refine r_get 71 (aR 194) dX9_target_68 fkX9_189 (fun _ => dsC_190 P W _) nn190 rfl rfl ?_
    refine r_iload_n 72 3 dX9_target_71 rfl rfl rfl ?_
    refine r_iald 73 dX9_target_72 (fun _ _ _ => dsC_194 P W _) (fun _ _ => nn194) rfl ?_
    refine SS.phi (fun VV_ => Ck_target_b81 x1 s0 VV_ G) ?_
    refine r_if_le 80 76 dX9_target_73 rfl rfl ?_ ?_
    · refine r_iconst 81 0 dX9_target_80 rfl rfl ?_
      refine r_to [1, 2, 0] [(0, aR 160), (1, aI x1), (3, aI s0)] rfl ?_
      exact s_Ck_target_b81 P W x1 s0 0 G
    · refine r_iconst 77 1 dX9_target_76 rfl rfl ?_
      refine r_goto 81 dX9_target_77 rfl ?_
      refine r_to [1, 2, 0] [(0, aR 160), (1, aI x1), (3, aI s0)] rfl ?_
      exact s_Ck_target_b81 P W x1 s0 1 G
theorem s_Ck_target (P W : Int) (x1 : Int) (G : St) : SS (MCk_target P W) some 0 [(0, aR 160), (1, aI x1)] [] G (Ck_target x1 G) := by
  refine r_aload_n 1 0 dX9_target_0 rfl rfl rfl ?_
  refine r_aload_n 2 0 dX9_target_1 rfl rfl rfl ?_
  refine r_get 5 (aR 110) dX9_target_2 fkX9_48 (fun _ => dsC_160 P W _) nn160 rfl rfl ?_
  refine r_get 8 (aR 112) dX9_target_5 fkX9_133 (fun _ => dsC_110 P W _) nn110 rfl rfl ?_
  refine r_iload_n 9 1 dX9_target_8 rfl rfl rfl ?_
  refine r_iald 10 dX9_target_9 (fun _ _ _ => dsC_112 P W _) (fun _ _ => nn112) rfl ?_
  refine r_aload_n 11 0 dX9_target_10 rfl rfl rfl ?_
  refine r_get 14 (aR 110) dX9_target_11 fkX9_48 (fun _ => dsC_160 P W _) nn160 rfl rfl ?_
  refine r_get 17 (aR 113) dX9_target_14 fkX9_136 (fun _ => dsC_110 P W _) nn110 rfl rfl ?_
  refine r_iload_n 18 1 dX9_target_17 rfl rfl rfl ?_
  refine r_iald 19 dX9_target_18 (fun _ _ _ => dsC_113 P W _) (fun _ _ => nn113) rfl ?_
  refine r_callvI 22 (Mc := MCk_visible P W) (o := 160) (as := [aI (G 112 x1), aI (G 113 x1)]) (st := []) dX9_target_19 rfl (c_Ck_visible P W (G 112 x1) (G 113 x1) G) lkX9_180 (cmCk_visible P W) rfl rfl rfl (fun _ => dsC_160 P W _) nn160 rfl (Nat.le_of_ble_eq_true rfl) (Nat.le_of_ble_eq_true rfl) (fun _ => rfl) rfl (fun z1 G2 => ?_)
  refine r_istore_n 23 [(2, aI z1), (0, aR 160), (1, aI x1)] dX9_target_22 rfl rfl rfl rfl ?_
  refine r_iload_n 24 0 dX9_target_23 rfl rfl rfl ?_
  refine r_iconst 25 (-1) dX9_target_24 rfl rfl ?_
  refine r_icmp_ne 29 28 dX9_target_25 rfl rfl ?_ ?_
  · refine r_aload_n 30 1 dX9_target_29 rfl rfl rfl ?_
    refine r_get 33 (aR 110) dX9_target_30 fkX9_48 (fun _ => dsC_160 P W _) nn160 rfl rfl ?_
    refine r_get 36 (aR 111) dX9_target_33 fkX9_107 (fun _ => dsC_110 P W _) nn110 rfl rfl ?_
    refine r_iload_n 37 2 dX9_target_36 rfl rfl rfl ?_
    refine r_aald5 38 dX9_target_37 (fun _ _ _ => dsC_111 P W _) (fun _ _ => nn111) rfl ?_
    refine r_gets 41 10 dX9_target_38 q1410 rfl rfl ?_
    refine r_acmp_ne 48 44 dX9_target_41 rfl rfl ?_ ?_
    · refine r_iconst 49 0 dX9_target_48 rfl rfl ?_
      refine r_to [1, 2, 0] [(0, aR 160), (1, aI x1), (2, aI z1)] rfl ?_
      exact s_Ck_target_b49 P W x1 z1 0 G2
    · refine r_iconst 45 1 dX9_target_44 rfl rfl ?_
      refine r_goto 49 dX9_target_45 rfl ?_
      refine r_to [1, 2, 0] [(0, aR 160), (1, aI x1), (2, aI z1)] rfl ?_
      exact s_Ck_target_b49 P W x1 z1 1 G2
  · exact r_return dX9_target_28 rfl
theorem c_Ck_target (P W : Int) (x1 : Int) (G : St) : MG (MCk_target P W) [aR 160, aI x1] G (Ck_target x1 G) := MG.of plX9 (Nat.le_of_ble_eq_true rfl) (s_Ck_target P W x1 G)
theorem s_Ck_statement_b136 (P W : Int) (x1 : Int) (G : St) : SS (MCk_statement P W) some 136 [(0, aR 160), (1, aI x1)] [] G (Ck_statement_b136 P W x1 G) := by
  refine r_aload_n 137 0 dX9_statement_136 rfl rfl rfl ?_
  refine r_iload_n 138 1 dX9_statement_137 rfl rfl rfl ?_
  refine r_callvV 141 (Mc := MCk_input P W) (o := 160) (as := [aI x1]) (st := []) dX9_statement_138 rfl (c_Ck_input P W x1 G) lkX9_137 (cmCk_input P W) rfl rfl rfl (fun _ => dsC_160 P W _) nn160 rfl (Nat.le_of_ble_eq_true rfl) (Nat.le_of_ble_eq_true rfl) (fun _ => rfl) rfl (fun z1 G2 => ?_)
  refine r_goto 615 dX9_statement_141 rfl ?_
  exact r_return dX9_statement_615 rfl
theorem s_Ck_statement_b144 (P W : Int) (x2 : Int) (x3 : Int) (G : St) : SS (MCk_statement P W) some 144 [(0, aR 160), (2, aI x2), (3, aI x3)] [] G (Ck_statement_b144 P W x2 x3 G) := by
  refine r_aload_n 145 0 dX9_statement_144 rfl rfl rfl ?_
  refine r_iload_n 146 1 dX9_statement_145 rfl rfl rfl ?_
  refine r_iload_n 147 2 dX9_statement_146 rfl rfl rfl ?_
  refine r_callvV 150 (Mc := MCk_comesIn P W) (o := 160) (as := [aI x2, aI x3]) (st := []) dX9_statement_147 rfl (c_Ck_comesIn P W x2 x3 G) lkX9_140 (cmCk_comesIn P W) rfl rfl rfl (fun _ => dsC_160 P W _) nn160 rfl (Nat.le_of_ble_eq_true rfl) (Nat.le_of_ble_eq_true rfl) (fun _ => rfl) rfl (fun z3 G4 => ?_)
  refine r_aload_n 151 0 dX9_statement_150 rfl rfl rfl ?_
  refine r_aload_n 152 0 dX9_statement_151 rfl rfl rfl ?_
  refine r_get 155 (aR 190) dX9_statement_152 fkX9_12 (fun _ => dsC_160 P W _) nn160 rfl rfl ?_
  refine r_get 158 (aI (G4 190 5)) dX9_statement_155 fkX9_72 (fun _ => dsC_190 P W _) nn190 rfl rfl ?_
  refine r_putI 161 dX9_statement_158 fkX9_65 (fun _ => dsC_160 P W _) nn160 rfl rfl ?_
  refine ss_tk (fun G5 => ?_)
  refine r_aload_n 162 0 dX9_statement_161 rfl rfl rfl ?_
  refine r_get 165 (aR 166) dX9_statement_162 fkX9_35 (fun _ => dsC_160 P W _) nn160 rfl rfl ?_
  refine r_aload_n 166 0 dX9_statement_165 rfl rfl rfl ?_
  refine r_get 169 (aI (G5 160 18)) dX9_statement_166 fkX9_90 (fun _ => dsC_160 P W _) nn160 rfl rfl ?_
  refine r_aload_n 170 0 dX9_statement_169 rfl rfl rfl ?_
  refine r_get 173 (aI (G5 160 19)) dX9_statement_170 fkX9_93 (fun _ => dsC_160 P W _) nn160 rfl rfl ?_
  refine r_iast 174 dX9_statement_173 (fun _ _ _ => dsC_166 P W _) (fun _ _ => nn166) rfl ?_
  refine ss_tk (fun G6 => ?_)
  refine r_aload_n 175 0 dX9_statement_174 rfl rfl rfl ?_
  refine r_get 178 (aR 167) dX9_statement_175 fkX9_38 (fun _ => dsC_160 P W _) nn160 rfl rfl ?_
  refine r_aload_n 179 0 dX9_statement_178 rfl rfl rfl ?_
  refine r_get 182 (aI (G6 160 18)) dX9_statement_179 fkX9_90 (fun _ => dsC_160 P W _) nn160 rfl rfl ?_
  refine r_iconst 183 0 dX9_statement_182 rfl rfl ?_
  refine r_iast 184 dX9_statement_183 (fun _ _ _ => dsC_167 P W _) (fun _ _ => nn167) rfl ?_
  refine ss_tk (fun G7 => ?_)
  refine r_goto 615 dX9_statement_184 rfl ?_
  exact r_return dX9_statement_615 rfl
theorem s_Ck_statement_b187 (P W : Int) (x1 : Int) (x2 : Int) (x3 : Int) (G : St) : SS (MCk_statement P W) some 187 [(0, aR 160), (1, aI x1), (2, aI x2), (3, aI x3)] [] G (Ck_statement_b187 P W x1 x2 x3 G) := by
  refine r_aload_n 188 0 dX9_statement_187 rfl rfl rfl ?_
  refine r_iload_n 189 2 dX9_statement_188 rfl rfl rfl ?_
  refine r_iload_n 190 3 dX9_statement_189 rfl rfl rfl ?_
  refine r_callvV 193 (Mc := MCk_comesIn P W) (o := 160) (as := [aI x2, aI x3]) (st := []) dX9_statement_190 rfl (c_Ck_comesIn P W x2 x3 G) lkX9_140 (cmCk_comesIn P W) rfl rfl rfl (fun _ => dsC_160 P W _) nn160 rfl (Nat.le_of_ble_eq_true rfl) (Nat.le_of_ble_eq_true rfl) (fun _ => rfl) rfl (fun z8 G9 => ?_)
  refine r_aload_n 194 0 dX9_statement_193 rfl rfl rfl ?_
  refine r_get 197 (aR 190) dX9_statement_194 fkX9_12 (fun _ => dsC_160 P W _) nn160 rfl rfl ?_
  refine r_iload_n 198 2 dX9_statement_197 rfl rfl rfl ?_
  refine r_iconst 199 3 dX9_statement_198 rfl rfl ?_
  refine r_aload_n 200 0 dX9_statement_199 rfl rfl rfl ?_
  refine r_get 203 (aR 110) dX9_statement_200 fkX9_48 (fun _ => dsC_160 P W _) nn160 rfl rfl ?_
  refine r_get 206 (aR 114) dX9_statement_203 fkX9_143 (fun _ => dsC_110 P W _) nn110 rfl rfl ?_
  refine r_iload_n 207 1 dX9_statement_206 rfl rfl rfl ?_
  refine r_iald 208 dX9_statement_207 (fun _ _ _ => dsC_114 P W _) (fun _ _ => nn114) rfl ?_
  refine r_iconst 209 0 dX9_statement_208 rfl rfl ?_
  refine r_aload_n 210 0 dX9_statement_209 rfl rfl rfl ?_
  refine r_get 213 (aR 167) dX9_statement_210 fkX9_38 (fun _ => dsC_160 P W _) nn160 rfl rfl ?_
  refine r_aload_n 214 0 dX9_statement_213 rfl rfl rfl ?_
  refine r_get 217 (aI (G9 160 18)) dX9_statement_214 fkX9_90 (fun _ => dsC_160 P W _) nn160 rfl rfl ?_
  refine r_iald 218 dX9_statement_217 (fun _ _ _ => dsC_167 P W _) (fun _ _ => nn167) rfl ?_
  refine r_callvV 221 (Mc := MSc_add P W) (o := 190) (as := [aI x2, aI 3, aI (G9 114 x1), aI 0, aI (G9 167 (G9 160 18))]) (st := []) dX9_statement_218 rfl (c_Sc_add P W x2 3 (G9 114 x1) 0 (G9 167 (G9 160 18)) G9) lkX9_146 (cmSc_add P W) rfl rfl rfl (fun _ => dsC_190 P W _) nn190 rfl (Nat.le_of_ble_eq_true rfl) (Nat.le_of_ble_eq_true rfl) (fun _ => rfl) rfl (fun z10 G11 => ?_)
  refine r_aload_n 222 0 dX9_statement_221 rfl rfl rfl ?_
  refine r_get 225 (aR 168) dX9_statement_222 fkX9_41 (fun _ => dsC_160 P W _) nn160 rfl rfl ?_
  refine r_aload_n 226 0 dX9_statement_225 rfl rfl rfl ?_
  refine r_get 229 (aI (G11 160 19)) dX9_statement_226 fkX9_93 (fun _ => dsC_160 P W _) nn160 rfl rfl ?_
  refine r_aload_n 230 0 dX9_statement_229 rfl rfl rfl ?_
  refine r_get 233 (aR 110) dX9_statement_230 fkX9_48 (fun _ => dsC_160 P W _) nn160 rfl rfl ?_
  refine r_get 236 (aR 114) dX9_statement_233 fkX9_143 (fun _ => dsC_110 P W _) nn110 rfl rfl ?_
  refine r_iload_n 237 1 dX9_statement_236 rfl rfl rfl ?_
  refine r_iald 238 dX9_statement_237 (fun _ _ _ => dsC_114 P W _) (fun _ _ => nn114) rfl ?_
  refine r_iast 239 dX9_statement_238 (fun _ _ _ => dsC_168 P W _) (fun _ _ => nn168) rfl ?_
  refine ss_tk (fun G12 => ?_)
  refine r_aload_n 240 0 dX9_statement_239 rfl rfl rfl ?_
  refine r_dup 241 dX9_statement_240 rfl rfl ?_
  refine r_get 244 (aI (G12 160 19)) dX9_statement_241 fkX9_93 (fun _ => dsC_160 P W _) nn160 rfl rfl ?_
  refine r_iconst 245 1 dX9_statement_244 rfl rfl ?_
  refine r_iadd 246 dX9_statement_245 rfl ?_
  refine r_putI 249 dX9_statement_246 fkX9_93 (fun _ => dsC_160 P W _) nn160 rfl rfl ?_
  refine ss_tk (fun G13 => ?_)
  refine r_aload_n 250 0 dX9_statement_249 rfl rfl rfl ?_
  refine r_get 253 (aR 167) dX9_statement_250 fkX9_38 (fun _ => dsC_160 P W _) nn160 rfl rfl ?_
  refine r_aload_n 254 0 dX9_statement_253 rfl rfl rfl ?_
  refine r_get 257 (aI (G13 160 18)) dX9_statement_254 fkX9_90 (fun _ => dsC_160 P W _) nn160 rfl rfl ?_
  refine r_dup2 258 dX9_statement_257 rfl rfl rfl ?_
  refine r_iald 259 dX9_statement_258 (fun _ _ _ => dsC_167 P W _) (fun _ _ => nn167) rfl ?_
  refine r_iconst 260 1 dX9_statement_259 rfl rfl ?_
  refine r_iadd 261 dX9_statement_260 rfl ?_
  refine r_iast 262 dX9_statement_261 (fun _ _ _ => dsC_167 P W _) (fun _ _ => nn167) rfl ?_
  refine ss_tk (fun G14 => ?_)
  refine r_goto 615 dX9_statement_262 rfl ?_
  exact r_return dX9_statement_615 rfl
theorem s_Ck_statement_b265 (P W : Int) (x1 : Int) (G : St) : SS (MCk_statement P W) some 265 [(0, aR 160), (1, aI x1)] [] G (Ck_statement_b265 P W x1 G) := by
  refine r_aload_n 266 0 dX9_statement_265 rfl rfl rfl ?_
  refine r_iload_n 267 1 dX9_statement_266 rfl rfl rfl ?_
  refine r_callvV 270 (Mc := MCk_endDef P W) (o := 160) (as := [aI x1]) (st := []) dX9_statement_267 rfl (c_Ck_endDef P W x1 G) lkX9_150 (cmCk_endDef P W) rfl rfl rfl (fun _ => dsC_160 P W _) nn160 rfl (Nat.le_of_ble_eq_true rfl) (Nat.le_of_ble_eq_true rfl) (fun _ => rfl) rfl (fun z15 G16 => ?_)
  refine r_goto 615 dX9_statement_270 rfl ?_
  exact r_return dX9_statement_615 rfl
theorem s_Ck_statement_b273 (P W : Int) (x1 : Int) (G : St) : SS (MCk_statement P W) some 273 [(0, aR 160), (1, aI x1)] [] G (Ck_statement_b273 P W x1 G) := by
  refine r_aload_n 274 0 dX9_statement_273 rfl rfl rfl ?_
  refine r_dup 275 dX9_statement_274 rfl rfl ?_
  refine r_get 278 (aI (G 160 6)) dX9_statement_275 fkX9_56 (fun _ => dsC_160 P W _) nn160 rfl rfl ?_
  refine r_iconst 279 1 dX9_statement_278 rfl rfl ?_
  refine r_isub 280 dX9_statement_279 rfl ?_
  refine r_putI 283 dX9_statement_280 fkX9_56 (fun _ => dsC_160 P W _) nn160 rfl rfl ?_
  refine ss_tk (fun G17 => ?_)
  refine r_aload_n 284 0 dX9_statement_283 rfl rfl rfl ?_
  refine r_get 287 (aR 110) dX9_statement_284 fkX9_48 (fun _ => dsC_160 P W _) nn160 rfl rfl ?_
  refine r_get 290 (aR 114) dX9_statement_287 fkX9_143 (fun _ => dsC_110 P W _) nn110 rfl rfl ?_
  refine r_iload_n 291 1 dX9_statement_290 rfl rfl rfl ?_
  refine r_aload_n 292 0 dX9_statement_291 rfl rfl rfl ?_
  refine r_get 295 (aR 161) dX9_statement_292 fkX9_18 (fun _ => dsC_160 P W _) nn160 rfl rfl ?_
  refine r_aload_n 296 0 dX9_statement_295 rfl rfl rfl ?_
  refine r_get 299 (aI (G17 160 6)) dX9_statement_296 fkX9_56 (fun _ => dsC_160 P W _) nn160 rfl rfl ?_
  refine r_iald 300 dX9_statement_299 (fun _ _ _ => dsC_161 P W _) (fun _ _ => nn161) rfl ?_
  refine r_iast 301 dX9_statement_300 (fun _ _ _ => dsC_114 P W _) (fun _ _ => nn114) rfl ?_
  refine ss_tk (fun G18 => ?_)
  refine r_goto 615 dX9_statement_301 rfl ?_
  exact r_return dX9_statement_615 rfl
theorem s_Ck_statement_b304 (P W : Int) (x2 : Int) (x3 : Int) (G : St) : SS (MCk_statement P W) some 304 [(0, aR 160), (2, aI x2), (3, aI x3)] [] G (Ck_statement_b304 P W x2 x3 G) := by
  refine r_aload_n 305 0 dX9_statement_304 rfl rfl rfl ?_
  refine r_iload_n 306 1 dX9_statement_305 rfl rfl rfl ?_
  refine r_iload_n 307 2 dX9_statement_306 rfl rfl rfl ?_
  refine r_callvV 310 (Mc := MCk_comesIn P W) (o := 160) (as := [aI x2, aI x3]) (st := []) dX9_statement_307 rfl (c_Ck_comesIn P W x2 x3 G) lkX9_140 (cmCk_comesIn P W) rfl rfl rfl (fun _ => dsC_160 P W _) nn160 rfl (Nat.le_of_ble_eq_true rfl) (Nat.le_of_ble_eq_true rfl) (fun _ => rfl) rfl (fun z19 G20 => ?_)
  refine r_goto 615 dX9_statement_310 rfl ?_
  exact r_return dX9_statement_615 rfl
theorem s_Ck_statement_b313 (P W : Int) (x1 : Int) (G : St) : SS (MCk_statement P W) some 313 [(0, aR 160), (1, aI x1)] [] G (Ck_statement_b313 P W x1 G) := by
  refine r_aload_n 314 0 dX9_statement_313 rfl rfl rfl ?_
  refine r_iload_n 315 1 dX9_statement_314 rfl rfl rfl ?_
  refine r_callvV 318 (Mc := MCk_endVar P W) (o := 160) (as := [aI x1]) (st := []) dX9_statement_315 rfl (c_Ck_endVar P W x1 G) lkX9_153 (cmCk_endVar P W) rfl rfl rfl (fun _ => dsC_160 P W _) nn160 rfl (Nat.le_of_ble_eq_true rfl) (Nat.le_of_ble_eq_true rfl) (fun _ => rfl) rfl (fun z21 G22 => ?_)
  refine r_goto 615 dX9_statement_318 rfl ?_
  exact r_return dX9_statement_615 rfl
theorem s_Ck_statement_b321 (P W : Int) (x1 : Int) (G : St) : SS (MCk_statement P W) some 321 [(0, aR 160), (1, aI x1)] [] G (Ck_statement_b321 P W x1 G) := by
  refine r_aload_n 322 0 dX9_statement_321 rfl rfl rfl ?_
  refine r_iload_n 323 1 dX9_statement_322 rfl rfl rfl ?_
  refine r_callvV 326 (Mc := MCk_target P W) (o := 160) (as := [aI x1]) (st := []) dX9_statement_323 rfl (c_Ck_target P W x1 G) lkX9_156 (cmCk_target P W) rfl rfl rfl (fun _ => dsC_160 P W _) nn160 rfl (Nat.le_of_ble_eq_true rfl) (Nat.le_of_ble_eq_true rfl) (fun _ => rfl) rfl (fun z23 G24 => ?_)
  refine r_goto 615 dX9_statement_326 rfl ?_
  exact r_return dX9_statement_615 rfl
theorem s_Ck_statement_b349 (P W : Int) (x1 : Int) (s0 : Int) (G : St) : SS (MCk_statement P W) some 349 [(0, aR 160), (1, aI x1)] [aI s0, aR 160] G (Ck_statement_b349 P W x1 s0 G) := by
  refine r_aload_n 350 0 dX9_statement_349 rfl rfl rfl ?_
  refine r_get 353 (aR 162) dX9_statement_350 fkX9_22 (fun _ => dsC_160 P W _) nn160 rfl rfl ?_
  refine r_aload_n 354 0 dX9_statement_353 rfl rfl rfl ?_
  refine r_get 357 (aI (G 160 6)) dX9_statement_354 fkX9_56 (fun _ => dsC_160 P W _) nn160 rfl rfl ?_
  refine r_iconst 358 1 dX9_statement_357 rfl rfl ?_
  refine r_isub 359 dX9_statement_358 rfl ?_
  refine r_iald 360 dX9_statement_359 (fun _ _ _ => dsC_162 P W _) (fun _ _ => nn162) rfl ?_
  refine r_callvV 363 (Mc := MCk_need P W) (o := 160) (as := [aI s0, aI (G 162 ((G 160 6) - 1))]) (st := []) dX9_statement_360 rfl (c_Ck_need P W s0 (G 162 ((G 160 6) - 1)) G) lkX9_159 (cmCk_need P W) rfl rfl rfl (fun _ => dsC_160 P W _) nn160 rfl (Nat.le_of_ble_eq_true rfl) (Nat.le_of_ble_eq_true rfl) (fun _ => rfl) rfl (fun z25 G26 => ?_)
  refine r_aload_n 364 0 dX9_statement_363 rfl rfl rfl ?_
  refine r_iload_n 365 1 dX9_statement_364 rfl rfl rfl ?_
  refine r_callvV 368 (Mc := MCk_index P W) (o := 160) (as := [aI x1]) (st := []) dX9_statement_365 rfl (c_Ck_index P W x1 G26) lkX9_163 (cmCk_index P W) rfl rfl rfl (fun _ => dsC_160 P W _) nn160 rfl (Nat.le_of_ble_eq_true rfl) (Nat.le_of_ble_eq_true rfl) (fun _ => rfl) rfl (fun z27 G28 => ?_)
  refine r_goto 615 dX9_statement_368 rfl ?_
  exact r_return dX9_statement_615 rfl
theorem s_Ck_statement_b329 (P W : Int) (x1 : Int) (G : St) : SS (MCk_statement P W) some 329 [(0, aR 160), (1, aI x1)] [] G (Ck_statement_b329 P W x1 G) := by
  refine r_aload_n 330 0 dX9_statement_329 rfl rfl rfl ?_
  refine r_aload_n 331 0 dX9_statement_330 rfl rfl rfl ?_
  refine r_get 334 (aR 161) dX9_statement_331 fkX9_18 (fun _ => dsC_160 P W _) nn160 rfl rfl ?_
  refine r_aload_n 335 0 dX9_statement_334 rfl rfl rfl ?_
  refine r_get 338 (aI (G 160 6)) dX9_statement_335 fkX9_56 (fun _ => dsC_160 P W _) nn160 rfl rfl ?_
  refine r_iconst 339 1 dX9_statement_338 rfl rfl ?_
  refine r_isub 340 dX9_statement_339 rfl ?_
  refine r_iald 341 dX9_statement_340 (fun _ _ _ => dsC_161 P W _) (fun _ _ => nn161) rfl ?_
  refine SS.phi (fun VV_ => Ck_statement_b349 P W x1 VV_ G) ?_
  refine r_if_ne 348 344 dX9_statement_341 rfl rfl ?_ ?_
  · refine r_iconst 349 0 dX9_statement_348 rfl rfl ?_
    exact s_Ck_statement_b349 P W x1 0 G
  · refine r_iconst 345 1 dX9_statement_344 rfl rfl ?_
    refine r_goto 349 dX9_statement_345 rfl ?_
    exact s_Ck_statement_b349 P W x1 1 G
theorem s_Ck_statement_b371 (P W : Int) (x1 : Int) (G : St) : SS (MCk_statement P W) some 371 [(0, aR 160), (1, aI x1)] [] G (Ck_statement_b371 P W x1 G) := by
  refine r_aload_n 372 0 dX9_statement_371 rfl rfl rfl ?_
  refine r_iload_n 373 1 dX9_statement_372 rfl rfl rfl ?_
  refine r_callvV 376 (Mc := MCk_assign P W) (o := 160) (as := [aI x1]) (st := []) dX9_statement_373 rfl (c_Ck_assign P W x1 G) lkX9_166 (cmCk_assign P W) rfl rfl rfl (fun _ => dsC_160 P W _) nn160 rfl (Nat.le_of_ble_eq_true rfl) (Nat.le_of_ble_eq_true rfl) (fun _ => rfl) rfl (fun z29 G30 => ?_)
  refine r_goto 615 dX9_statement_376 rfl ?_
  exact r_return dX9_statement_615 rfl
theorem s_Ck_statement_b408 (P W : Int) (x1 : Int) (s0 : Int) (G : St) : SS (MCk_statement P W) some 408 [(0, aR 160), (1, aI x1)] [aI s0, aR 160] G (Ck_statement_b408 P W x1 s0 G) := by
  refine r_aload_n 409 0 dX9_statement_408 rfl rfl rfl ?_
  refine r_get 412 (aR 162) dX9_statement_409 fkX9_22 (fun _ => dsC_160 P W _) nn160 rfl rfl ?_
  refine r_aload_n 413 0 dX9_statement_412 rfl rfl rfl ?_
  refine r_get 416 (aI (G 160 6)) dX9_statement_413 fkX9_56 (fun _ => dsC_160 P W _) nn160 rfl rfl ?_
  refine r_iald 417 dX9_statement_416 (fun _ _ _ => dsC_162 P W _) (fun _ _ => nn162) rfl ?_
  refine r_callvV 420 (Mc := MCk_need P W) (o := 160) (as := [aI s0, aI (G 162 (G 160 6))]) (st := []) dX9_statement_417 rfl (c_Ck_need P W s0 (G 162 (G 160 6)) G) lkX9_159 (cmCk_need P W) rfl rfl rfl (fun _ => dsC_160 P W _) nn160 rfl (Nat.le_of_ble_eq_true rfl) (Nat.le_of_ble_eq_true rfl) (fun _ => rfl) rfl (fun z32 G33 => ?_)
  refine r_aload_n 421 0 dX9_statement_420 rfl rfl rfl ?_
  refine r_get 424 (aR 110) dX9_statement_421 fkX9_48 (fun _ => dsC_160 P W _) nn160 rfl rfl ?_
  refine r_get 427 (aR 112) dX9_statement_424 fkX9_133 (fun _ => dsC_110 P W _) nn110 rfl rfl ?_
  refine r_iload_n 428 1 dX9_statement_427 rfl rfl rfl ?_
  refine r_aload_n 429 0 dX9_statement_428 rfl rfl rfl ?_
  refine r_get 432 (aI (G33 160 9)) dX9_statement_429 fkX9_78 (fun _ => dsC_160 P W _) nn160 rfl rfl ?_
  refine r_iast 433 dX9_statement_432 (fun _ _ _ => dsC_112 P W _) (fun _ _ => nn112) rfl ?_
  refine ss_tk (fun G34 => ?_)
  refine r_goto 615 dX9_statement_433 rfl ?_
  exact r_return dX9_statement_615 rfl
theorem s_Ck_statement_b379 (P W : Int) (x1 : Int) (G : St) : SS (MCk_statement P W) some 379 [(0, aR 160), (1, aI x1)] [] G (Ck_statement_b379 P W x1 G) := by
  refine r_aload_n 380 0 dX9_statement_379 rfl rfl rfl ?_
  refine r_dup 381 dX9_statement_380 rfl rfl ?_
  refine r_get 384 (aI (G 160 6)) dX9_statement_381 fkX9_56 (fun _ => dsC_160 P W _) nn160 rfl rfl ?_
  refine r_iconst 385 1 dX9_statement_384 rfl rfl ?_
  refine r_isub 386 dX9_statement_385 rfl ?_
  refine r_putI 389 dX9_statement_386 fkX9_56 (fun _ => dsC_160 P W _) nn160 rfl rfl ?_
  refine ss_tk (fun G31 => ?_)
  refine r_aload_n 390 0 dX9_statement_389 rfl rfl rfl ?_
  refine r_aload_n 391 0 dX9_statement_390 rfl rfl rfl ?_
  refine r_get 394 (aR 161) dX9_statement_391 fkX9_18 (fun _ => dsC_160 P W _) nn160 rfl rfl ?_
  refine r_aload_n 395 0 dX9_statement_394 rfl rfl rfl ?_
  refine r_get 398 (aI (G31 160 6)) dX9_statement_395 fkX9_56 (fun _ => dsC_160 P W _) nn160 rfl rfl ?_
  refine r_iald 399 dX9_statement_398 (fun _ _ _ => dsC_161 P W _) (fun _ _ => nn161) rfl ?_
  refine r_iconst 400 1 dX9_statement_399 rfl rfl ?_
  refine SS.phi (fun VV_ => Ck_statement_b408 P W x1 VV_ G31) ?_
  refine r_icmp_ne 407 403 dX9_statement_400 rfl rfl ?_ ?_
  · refine r_iconst 408 0 dX9_statement_407 rfl rfl ?_
    exact s_Ck_statement_b408 P W x1 0 G31
  · refine r_iconst 404 1 dX9_statement_403 rfl rfl ?_
    refine r_goto 408 dX9_statement_404 rfl ?_
    exact s_Ck_statement_b408 P W x1 1 G31
theorem s_Ck_statement_b436 (P W : Int) (x2 : Int) (x3 : Int) (G : St) : SS (MCk_statement P W) some 436 [(0, aR 160), (2, aI x2), (3, aI x3)] [] G (Ck_statement_b436 P W x2 x3 G) := by
  refine r_aload_n 437 0 dX9_statement_436 rfl rfl rfl ?_
  refine r_iload_n 438 1 dX9_statement_437 rfl rfl rfl ?_
  refine r_iload_n 439 2 dX9_statement_438 rfl rfl rfl ?_
  refine r_callvV 442 (Mc := MCk_comesIn P W) (o := 160) (as := [aI x2, aI x3]) (st := []) dX9_statement_439 rfl (c_Ck_comesIn P W x2 x3 G) lkX9_140 (cmCk_comesIn P W) rfl rfl rfl (fun _ => dsC_160 P W _) nn160 rfl (Nat.le_of_ble_eq_true rfl) (Nat.le_of_ble_eq_true rfl) (fun _ => rfl) rfl (fun z35 G36 => ?_)
  refine r_goto 615 dX9_statement_442 rfl ?_
  exact r_return dX9_statement_615 rfl
theorem s_Ck_statement_b465 (P W : Int) (s0 : Int) (G : St) : SS (MCk_statement P W) some 465 [(0, aR 160)] [aI s0, aR 160] G (Ck_statement_b465 P W s0 G) := by
  refine r_aload_n 466 0 dX9_statement_465 rfl rfl rfl ?_
  refine r_get 469 (aR 162) dX9_statement_466 fkX9_22 (fun _ => dsC_160 P W _) nn160 rfl rfl ?_
  refine r_aload_n 470 0 dX9_statement_469 rfl rfl rfl ?_
  refine r_get 473 (aI (G 160 6)) dX9_statement_470 fkX9_56 (fun _ => dsC_160 P W _) nn160 rfl rfl ?_
  refine r_iconst 474 1 dX9_statement_473 rfl rfl ?_
  refine r_isub 475 dX9_statement_474 rfl ?_
  refine r_iald 476 dX9_statement_475 (fun _ _ _ => dsC_162 P W _) (fun _ _ => nn162) rfl ?_
  refine r_callvV 479 (Mc := MCk_need P W) (o := 160) (as := [aI s0, aI (G 162 ((G 160 6) - 1))]) (st := []) dX9_statement_476 rfl (c_Ck_need P W s0 (G 162 ((G 160 6) - 1)) G) lkX9_159 (cmCk_need P W) rfl rfl rfl (fun _ => dsC_160 P W _) nn160 rfl (Nat.le_of_ble_eq_true rfl) (Nat.le_of_ble_eq_true rfl) (fun _ => rfl) rfl (fun z37 G38 => ?_)
  refine r_aload_n 480 0 dX9_statement_479 rfl rfl rfl ?_
  refine r_get 483 (aR 163) dX9_statement_480 fkX9_25 (fun _ => dsC_160 P W _) nn160 rfl rfl ?_
  refine r_aload_n 484 0 dX9_statement_483 rfl rfl rfl ?_
  refine r_get 487 (aI (G38 160 6)) dX9_statement_484 fkX9_56 (fun _ => dsC_160 P W _) nn160 rfl rfl ?_
  refine r_iconst 488 1 dX9_statement_487 rfl rfl ?_
  refine r_isub 489 dX9_statement_488 rfl ?_
  refine r_zald 490 dX9_statement_489 (fun _ _ _ => dsC_163 P W _) (fun _ _ => nn163) rfl ?_
  refine r_if_ne 615 493 dX9_statement_490 rfl rfl ?_ ?_
  · exact r_return dX9_statement_615 rfl
  · refine r_aload_n 494 0 dX9_statement_493 rfl rfl rfl ?_
    refine r_get 497 (aR 130) dX9_statement_494 fkX9_52 (fun _ => dsC_160 P W _) nn160 rfl rfl ?_
    refine r_bipush 499 6 dX9_statement_497 rfl rfl ?_
    refine r_aload_n 500 0 dX9_statement_499 rfl rfl rfl ?_
    refine r_get 503 (aR 162) dX9_statement_500 fkX9_22 (fun _ => dsC_160 P W _) nn160 rfl rfl ?_
    refine r_aload_n 504 0 dX9_statement_503 rfl rfl rfl ?_
    refine r_get 507 (aI (G38 160 6)) dX9_statement_504 fkX9_56 (fun _ => dsC_160 P W _) nn160 rfl rfl ?_
    refine r_iconst 508 1 dX9_statement_507 rfl rfl ?_
    refine r_isub 509 dX9_statement_508 rfl ?_
    refine r_iald 510 dX9_statement_509 (fun _ _ _ => dsC_162 P W _) (fun _ _ => nn162) rfl ?_
    refine r_callvV 513 (Mc := MFt_set P W) (o := 130) (as := [aI 6, aI (G38 162 ((G38 160 6) - 1))]) (st := []) dX9_statement_510 rfl (c_Ft_set P W 6 (G38 162 ((G38 160 6) - 1)) G38) lkX9_59 (cmFt_set P W) rfl rfl rfl (fun _ => dsC_130 P W _) nn130 rfl (Nat.le_of_ble_eq_true rfl) (Nat.le_of_ble_eq_true rfl) (fun _ => rfl) rfl (fun z39 G40 => ?_)
    refine r_goto 615 dX9_statement_513 rfl ?_
    exact r_return dX9_statement_615 rfl
theorem s_Ck_statement_b445 (P W : Int) (G : St) : SS (MCk_statement P W) some 445 [(0, aR 160)] [] G (Ck_statement_b445 P W G) := by
  refine r_aload_n 446 0 dX9_statement_445 rfl rfl rfl ?_
  refine r_aload_n 447 0 dX9_statement_446 rfl rfl rfl ?_
  refine r_get 450 (aR 161) dX9_statement_447 fkX9_18 (fun _ => dsC_160 P W _) nn160 rfl rfl ?_
  refine r_aload_n 451 0 dX9_statement_450 rfl rfl rfl ?_
  refine r_get 454 (aI (G 160 6)) dX9_statement_451 fkX9_56 (fun _ => dsC_160 P W _) nn160 rfl rfl ?_
  refine r_iconst 455 1 dX9_statement_454 rfl rfl ?_
  refine r_isub 456 dX9_statement_455 rfl ?_
  refine r_iald 457 dX9_statement_456 (fun _ _ _ => dsC_161 P W _) (fun _ _ => nn161) rfl ?_
  refine SS.phi (fun VV_ => Ck_statement_b465 P W VV_ G) ?_
  refine r_if_ne 464 460 dX9_statement_457 rfl rfl ?_ ?_
  · refine r_iconst 465 0 dX9_statement_464 rfl rfl ?_
    exact s_Ck_statement_b465 P W 0 G
  · refine r_iconst 461 1 dX9_statement_460 rfl rfl ?_
    refine r_goto 465 dX9_statement_461 rfl ?_
    exact s_Ck_statement_b465 P W 1 G
theorem s_Ck_statement_b516 (P W : Int) (x1 : Int) (x2 : Int) (G : St) : SS (MCk_statement P W) some 516 [(0, aR 160), (1, aI x1), (2, aI x2)] [] G (Ck_statement_b516 P W x1 x2 G) := by
  refine r_aload_n 517 0 dX9_statement_516 rfl rfl rfl ?_
  refine r_dup 518 dX9_statement_517 rfl rfl ?_
  refine r_get 521 (aI (G 160 6)) dX9_statement_518 fkX9_56 (fun _ => dsC_160 P W _) nn160 rfl rfl ?_
  refine r_iconst 522 2 dX9_statement_521 rfl rfl ?_
  refine r_isub 523 dX9_statement_522 rfl ?_
  refine r_putI 526 dX9_statement_523 fkX9_56 (fun _ => dsC_160 P W _) nn160 rfl rfl ?_
  refine ss_tk (fun G41 => ?_)
  refine r_aload_n 527 0 dX9_statement_526 rfl rfl rfl ?_
  refine r_callvV 530 (Mc := MCk_mark P W) (o := 160) (as := []) (st := []) dX9_statement_527 rfl (c_Ck_mark P W G41) lkX9_169 (cmCk_mark P W) rfl rfl rfl (fun _ => dsC_160 P W _) nn160 rfl (Nat.le_of_ble_eq_true rfl) (Nat.le_of_ble_eq_true rfl) (fun _ => rfl) rfl (fun z42 G43 => ?_)
  refine r_aload_n 531 0 dX9_statement_530 rfl rfl rfl ?_
  refine r_get 534 (aR 190) dX9_statement_531 fkX9_12 (fun _ => dsC_160 P W _) nn160 rfl rfl ?_
  refine r_iload_n 535 2 dX9_statement_534 rfl rfl rfl ?_
  refine r_iconst 536 2 dX9_statement_535 rfl rfl ?_
  refine r_iconst 537 0 dX9_statement_536 rfl rfl ?_
  refine r_iconst 538 0 dX9_statement_537 rfl rfl ?_
  refine r_aload_n 539 0 dX9_statement_538 rfl rfl rfl ?_
  refine r_get 542 (aI (G43 160 12)) dX9_statement_539 fkX9_87 (fun _ => dsC_160 P W _) nn160 rfl rfl ?_
  refine r_callvV 545 (Mc := MSc_add P W) (o := 190) (as := [aI x2, aI 2, aI 0, aI 0, aI (G43 160 12)]) (st := []) dX9_statement_542 rfl (c_Sc_add P W x2 2 0 0 (G43 160 12) G43) lkX9_146 (cmSc_add P W) rfl rfl rfl (fun _ => dsC_190 P W _) nn190 rfl (Nat.le_of_ble_eq_true rfl) (Nat.le_of_ble_eq_true rfl) (fun _ => rfl) rfl (fun z44 G45 => ?_)
  refine r_aload_n 546 0 dX9_statement_545 rfl rfl rfl ?_
  refine r_get 549 (aR 110) dX9_statement_546 fkX9_48 (fun _ => dsC_160 P W _) nn160 rfl rfl ?_
  refine r_get 552 (aR 112) dX9_statement_549 fkX9_133 (fun _ => dsC_110 P W _) nn110 rfl rfl ?_
  refine r_iload_n 553 1 dX9_statement_552 rfl rfl rfl ?_
  refine r_aload_n 554 0 dX9_statement_553 rfl rfl rfl ?_
  refine r_get 557 (aI (G45 160 12)) dX9_statement_554 fkX9_87 (fun _ => dsC_160 P W _) nn160 rfl rfl ?_
  refine r_iast 558 dX9_statement_557 (fun _ _ _ => dsC_112 P W _) (fun _ _ => nn112) rfl ?_
  refine ss_tk (fun G46 => ?_)
  refine r_aload_n 559 0 dX9_statement_558 rfl rfl rfl ?_
  refine r_dup 560 dX9_statement_559 rfl rfl ?_
  refine r_get 563 (aI (G46 160 12)) dX9_statement_560 fkX9_87 (fun _ => dsC_160 P W _) nn160 rfl rfl ?_
  refine r_iconst 564 1 dX9_statement_563 rfl rfl ?_
  refine r_iadd 565 dX9_statement_564 rfl ?_
  refine r_putI 568 dX9_statement_565 fkX9_87 (fun _ => dsC_160 P W _) nn160 rfl rfl ?_
  refine ss_tk (fun G47 => ?_)
  refine r_goto 615 dX9_statement_568 rfl ?_
  exact r_return dX9_statement_615 rfl
theorem s_Ck_statement_b571 (P W : Int) (x1 : Int) (G : St) : SS (MCk_statement P W) some 571 [(0, aR 160), (1, aI x1)] [] G (Ck_statement_b571 P W x1 G) := by
  refine r_aload_n 572 0 dX9_statement_571 rfl rfl rfl ?_
  refine r_callvV 575 (Mc := MCk_release P W) (o := 160) (as := []) (st := []) dX9_statement_572 rfl (c_Ck_release P W G) lkX9_172 (cmCk_release P W) rfl rfl rfl (fun _ => dsC_160 P W _) nn160 rfl (Nat.le_of_ble_eq_true rfl) (Nat.le_of_ble_eq_true rfl) (fun _ => rfl) rfl (fun z48 G49 => ?_)
  refine r_aload_n 576 0 dX9_statement_575 rfl rfl rfl ?_
  refine r_dup 577 dX9_statement_576 rfl rfl ?_
  refine r_get 580 (aI (G49 160 12)) dX9_statement_577 fkX9_87 (fun _ => dsC_160 P W _) nn160 rfl rfl ?_
  refine r_iconst 581 1 dX9_statement_580 rfl rfl ?_
  refine r_isub 582 dX9_statement_581 rfl ?_
  refine r_putI 585 dX9_statement_582 fkX9_87 (fun _ => dsC_160 P W _) nn160 rfl rfl ?_
  refine ss_tk (fun G50 => ?_)
  refine r_aload_n 586 0 dX9_statement_585 rfl rfl rfl ?_
  refine r_get 589 (aR 110) dX9_statement_586 fkX9_48 (fun _ => dsC_160 P W _) nn160 rfl rfl ?_
  refine r_get 592 (aR 112) dX9_statement_589 fkX9_133 (fun _ => dsC_110 P W _) nn110 rfl rfl ?_
  refine r_iload_n 593 1 dX9_statement_592 rfl rfl rfl ?_
  refine r_aload_n 594 0 dX9_statement_593 rfl rfl rfl ?_
  refine r_get 597 (aI (G50 160 12)) dX9_statement_594 fkX9_87 (fun _ => dsC_160 P W _) nn160 rfl rfl ?_
  refine r_iast 598 dX9_statement_597 (fun _ _ _ => dsC_112 P W _) (fun _ _ => nn112) rfl ?_
  refine ss_tk (fun G51 => ?_)
  refine r_goto 615 dX9_statement_598 rfl ?_
  exact r_return dX9_statement_615 rfl
theorem s_Ck_statement_b601 (P W : Int) (G : St) : SS (MCk_statement P W) some 601 [(0, aR 160)] [] G (Ck_statement_b601 P W G) := by
  refine r_aload_n 602 0 dX9_statement_601 rfl rfl rfl ?_
  refine r_callvV 605 (Mc := MCk_mark P W) (o := 160) (as := []) (st := []) dX9_statement_602 rfl (c_Ck_mark P W G) lkX9_169 (cmCk_mark P W) rfl rfl rfl (fun _ => dsC_160 P W _) nn160 rfl (Nat.le_of_ble_eq_true rfl) (Nat.le_of_ble_eq_true rfl) (fun _ => rfl) rfl (fun z52 G53 => ?_)
  refine r_goto 615 dX9_statement_605 rfl ?_
  exact r_return dX9_statement_615 rfl
theorem s_Ck_statement_b608 (P W : Int) (G : St) : SS (MCk_statement P W) some 608 [(0, aR 160)] [] G (Ck_statement_b608 P W G) := by
  refine r_aload_n 609 0 dX9_statement_608 rfl rfl rfl ?_
  refine r_callvV 612 (Mc := MCk_release P W) (o := 160) (as := []) (st := []) dX9_statement_609 rfl (c_Ck_release P W G) lkX9_172 (cmCk_release P W) rfl rfl rfl (fun _ => dsC_160 P W _) nn160 rfl (Nat.le_of_ble_eq_true rfl) (Nat.le_of_ble_eq_true rfl) (fun _ => rfl) rfl (fun z54 G55 => ?_)
  refine r_goto 615 dX9_statement_612 rfl ?_
  exact r_return dX9_statement_615 rfl
theorem s_Ck_statement (P W : Int) (x1 : Int) (G : St) : SS (MCk_statement P W) some 0 [(0, aR 160), (1, aI x1)] [] G (Ck_statement P W x1 G) := by
  refine r_aload_n 1 0 dX9_statement_0 rfl rfl rfl ?_
  refine r_get 4 (aR 110) dX9_statement_1 fkX9_48 (fun _ => dsC_160 P W _) nn160 rfl rfl ?_
  refine r_get 7 (aR 112) dX9_statement_4 fkX9_133 (fun _ => dsC_110 P W _) nn110 rfl rfl ?_
  refine r_iload_n 8 1 dX9_statement_7 rfl rfl rfl ?_
  refine r_iald 9 dX9_statement_8 (fun _ _ _ => dsC_112 P W _) (fun _ _ => nn112) rfl ?_
  refine r_istore_n 10 [(2, aI (G 112 x1)), (0, aR 160), (1, aI x1)] dX9_statement_9 rfl rfl rfl rfl ?_
  refine r_aload_n 11 1 dX9_statement_10 rfl rfl rfl ?_
  refine r_get 14 (aR 110) dX9_statement_11 fkX9_48 (fun _ => dsC_160 P W _) nn160 rfl rfl ?_
  refine r_get 17 (aR 113) dX9_statement_14 fkX9_136 (fun _ => dsC_110 P W _) nn110 rfl rfl ?_
  refine r_iload_n 18 2 dX9_statement_17 rfl rfl rfl ?_
  refine r_iald 19 dX9_statement_18 (fun _ _ _ => dsC_113 P W _) (fun _ _ => nn113) rfl ?_
  refine r_istore_n 20 [(3, aI (G 113 x1)), (2, aI (G 112 x1)), (0, aR 160), (1, aI x1)] dX9_statement_19 rfl rfl rfl rfl ?_
  refine r_aload_n 21 2 dX9_statement_20 rfl rfl rfl ?_
  refine r_get 24 (aR 110) dX9_statement_21 fkX9_48 (fun _ => dsC_160 P W _) nn160 rfl rfl ?_
  refine r_get 27 (aR 111) dX9_statement_24 fkX9_107 (fun _ => dsC_110 P W _) nn110 rfl rfl ?_
  refine r_iload_n 28 3 dX9_statement_27 rfl rfl rfl ?_
  refine r_aald5 29 dX9_statement_28 (fun _ _ _ => dsC_111 P W _) (fun _ _ => nn111) rfl ?_
  refine r_ord 32 dX9_statement_29 q1316 rfl (Nat.le_of_ble_eq_true rfl) (Nat.le_of_ble_eq_true rfl) rfl ?_
  refine r_tsw 615 [(136, Ck_statement_b136 P W x1 G), (144, Ck_statement_b144 P W (G 112 x1) (G 113 x1) G), (187, Ck_statement_b187 P W x1 (G 112 x1) (G 113 x1) G), (265, Ck_statement_b265 P W x1 G), (615, some (0, G)), (273, Ck_statement_b273 P W x1 G), (615, some (0, G)), (304, Ck_statement_b304 P W (G 112 x1) (G 113 x1) G), (313, Ck_statement_b313 P W x1 G), (321, Ck_statement_b321 P W x1 G), (321, Ck_statement_b321 P W x1 G), (329, Ck_statement_b329 P W x1 G), (371, Ck_statement_b371 P W x1 G), (379, Ck_statement_b379 P W x1 G), (615, some (0, G)), (615, some (0, G)), (436, Ck_statement_b436 P W (G 112 x1) (G 113 x1) G), (445, Ck_statement_b445 P W G), (516, Ck_statement_b516 P W x1 (G 112 x1) G), (571, Ck_statement_b571 P W x1 G), (601, Ck_statement_b601 P W G), (608, Ck_statement_b608 P W G)] dX9_statement_32 rfl rfl rfl ⟨?_, ?_, ?_, ?_, ?_, ?_, ?_, ?_, ?_, ?_, ?_, ?_, ?_, ?_, ?_, ?_, ?_, ?_, ?_, ?_, ?_, ?_, trivial⟩ ?_
  · refine r_to [2, 3] [(0, aR 160), (1, aI x1)] rfl ?_
    exact s_Ck_statement_b136 P W x1 G
  · refine r_to [2, 1, 0] [(0, aR 160), (2, aI (G 112 x1)), (3, aI (G 113 x1))] rfl ?_
    exact s_Ck_statement_b144 P W (G 112 x1) (G 113 x1) G
  · refine r_to [2, 3, 1, 0] [(0, aR 160), (1, aI x1), (2, aI (G 112 x1)), (3, aI (G 113 x1))] rfl ?_
    exact s_Ck_statement_b187 P W x1 (G 112 x1) (G 113 x1) G
  · refine r_to [2, 3] [(0, aR 160), (1, aI x1)] rfl ?_
    exact s_Ck_statement_b265 P W x1 G
  · exact r_return dX9_statement_615 rfl
  · refine r_to [2, 3] [(0, aR 160), (1, aI x1)] rfl ?_
    exact s_Ck_statement_b273 P W x1 G
  · exact r_return dX9_statement_615 rfl
  · refine r_to [2, 1, 0] [(0, aR 160), (2, aI (G 112 x1)), (3, aI (G 113 x1))] rfl ?_
    exact s_Ck_statement_b304 P W (G 112 x1) (G 113 x1) G
  · refine r_to [2, 3] [(0, aR 160), (1, aI x1)] rfl ?_
    exact s_Ck_statement_b313 P W x1 G
  · refine r_to [2, 3] [(0, aR 160), (1, aI x1)] rfl ?_
    exact s_Ck_statement_b321 P W x1 G
  · refine r_to [2, 3] [(0, aR 160), (1, aI x1)] rfl ?_
    exact s_Ck_statement_b321 P W x1 G
  · refine r_to [2, 3] [(0, aR 160), (1, aI x1)] rfl ?_
    exact s_Ck_statement_b329 P W x1 G
  · refine r_to [2, 3] [(0, aR 160), (1, aI x1)] rfl ?_
    exact s_Ck_statement_b371 P W x1 G
  · refine r_to [2, 3] [(0, aR 160), (1, aI x1)] rfl ?_
    exact s_Ck_statement_b379 P W x1 G
  · exact r_return dX9_statement_615 rfl
  · exact r_return dX9_statement_615 rfl
  · refine r_to [2, 1, 0] [(0, aR 160), (2, aI (G 112 x1)), (3, aI (G 113 x1))] rfl ?_
    exact s_Ck_statement_b436 P W (G 112 x1) (G 113 x1) G
  · refine r_to [2] [(0, aR 160)] rfl ?_
    exact s_Ck_statement_b445 P W G
  · refine r_to [2, 3, 1] [(0, aR 160), (1, aI x1), (2, aI (G 112 x1))] rfl ?_
    exact s_Ck_statement_b516 P W x1 (G 112 x1) G
  · refine r_to [2, 3] [(0, aR 160), (1, aI x1)] rfl ?_
    exact s_Ck_statement_b571 P W x1 G
  · refine r_to [2] [(0, aR 160)] rfl ?_
    exact s_Ck_statement_b601 P W G
  · refine r_to [2] [(0, aR 160)] rfl ?_
    exact s_Ck_statement_b608 P W G
  · exact r_return dX9_statement_615 rfl
theorem c_Ck_statement (P W : Int) (x1 : Int) (G : St) : MG (MCk_statement P W) [aR 160, aI x1] G (Ck_statement P W x1 G) := MG.of plX9 (Nat.le_of_ble_eq_true rfl) (s_Ck_statement P W x1 G)
theorem s_Ck_step (P W : Int) (x1 : Int) (G : St) : SS (MCk_step P W) some 0 [(0, aR 160), (1, aI x1)] [] G (Ck_step P W x1 G) := by
  refine r_aload_n 1 0 dX9_step_0 rfl rfl rfl ?_
  refine r_get 4 (aR 110) dX9_step_1 fkX9_48 (fun _ => dsC_160 P W _) nn160 rfl rfl ?_
  refine r_get 7 (aR 111) dX9_step_4 fkX9_107 (fun _ => dsC_110 P W _) nn110 rfl rfl ?_
  refine r_iload_n 8 1 dX9_step_7 rfl rfl rfl ?_
  refine r_aald5 9 dX9_step_8 (fun _ _ _ => dsC_111 P W _) (fun _ _ => nn111) rfl ?_
  refine r_astore_n 10 [(2, aR (G 111 x1)), (0, aR 160), (1, aI x1)] dX9_step_9 rfl rfl rfl rfl ?_
  refine r_aload_n 11 0 dX9_step_10 rfl rfl rfl ?_
  refine r_ord 14 dX9_step_11 q1316 rfl (Nat.le_of_ble_eq_true rfl) (Nat.le_of_ble_eq_true rfl) rfl ?_
  refine r_gets 17 38 dX9_step_14 q1322 rfl rfl ?_
  refine r_ord 20 dX9_step_17 q1316 rfl (Nat.le_of_ble_eq_true rfl) (Nat.le_of_ble_eq_true rfl) rfl ?_
  refine r_icmp_lt 31 23 dX9_step_20 rfl rfl ?_ ?_
  · refine r_aload_n 32 0 dX9_step_31 rfl rfl rfl ?_
    refine r_ord 35 dX9_step_32 q1316 rfl (Nat.le_of_ble_eq_true rfl) (Nat.le_of_ble_eq_true rfl) rfl ?_
    refine r_gets 38 22 dX9_step_35 q1352 rfl rfl ?_
    refine r_ord 41 dX9_step_38 q1316 rfl (Nat.le_of_ble_eq_true rfl) (Nat.le_of_ble_eq_true rfl) rfl ?_
    refine r_icmp_lt 52 44 dX9_step_41 rfl rfl ?_ ?_
    · refine r_aload_n 53 1 dX9_step_52 rfl rfl rfl ?_
      refine r_iload_n 54 2 dX9_step_53 rfl rfl rfl ?_
      refine r_callvV 57 (Mc := MCk_statement P W) (o := 160) (as := [aI x1]) (st := []) dX9_step_54 rfl (c_Ck_statement P W x1 G) lkX9_130 (cmCk_statement P W) rfl rfl rfl (fun _ => dsC_160 P W _) nn160 rfl (Nat.le_of_ble_eq_true rfl) (Nat.le_of_ble_eq_true rfl) (fun _ => rfl) rfl (fun z1 G2 => ?_)
      exact r_return dX9_step_57 rfl
    · refine r_aload_n 45 1 dX9_step_44 rfl rfl rfl ?_
      refine r_iload_n 46 2 dX9_step_45 rfl rfl rfl ?_
      refine r_callvV 49 (Mc := MCk_factor P W) (o := 160) (as := [aI x1]) (st := []) dX9_step_46 rfl (c_Ck_factor P W x1 G) lkX9_127 (cmCk_factor P W) rfl rfl rfl (fun _ => dsC_160 P W _) nn160 rfl (Nat.le_of_ble_eq_true rfl) (Nat.le_of_ble_eq_true rfl) (fun _ => rfl) rfl (fun z3 G4 => ?_)
      refine r_goto 57 dX9_step_49 rfl ?_
      exact r_return dX9_step_57 rfl
  · refine r_aload_n 24 1 dX9_step_23 rfl rfl rfl ?_
    refine r_iload_n 25 2 dX9_step_24 rfl rfl rfl ?_
    refine r_callvV 28 (Mc := MCk_operator P W) (o := 160) (as := [aI x1]) (st := []) dX9_step_25 rfl (c_Ck_operator P W x1 G) lkX9_121 (cmCk_operator P W) rfl rfl rfl (fun _ => dsC_160 P W _) nn160 rfl (Nat.le_of_ble_eq_true rfl) (Nat.le_of_ble_eq_true rfl) (fun _ => rfl) rfl (fun z5 G6 => ?_)
    refine r_goto 57 dX9_step_28 rfl ?_
    exact r_return dX9_step_57 rfl
theorem c_Ck_step (P W : Int) (x1 : Int) (G : St) : MG (MCk_step P W) [aR 160, aI x1] G (Ck_step P W x1 G) := MG.of plX9 (Nat.le_of_ble_eq_true rfl) (s_Ck_step P W x1 G)
theorem s_Ck_check_s55 (P W : Int) (X55 : Int × St → Option (Int × St)) (hX55 : ∀ s, So (MCk_check P W) 55 [(0, aR 160), (1, aI (s.1))] [] s.2 (X55 s)) (x1 : Int) (G : St) : SS (MCk_check P W) (lk X55 some) 55 [(0, aR 160), (1, aI x1)] [] G (Ck_check_s55 P W x1 G) := by
  refine r_iload_n 56 1 dX9_check_55 rfl rfl rfl ?_
  refine r_aload_n 57 0 dX9_check_56 rfl rfl rfl ?_
  refine r_get 60 (aR 110) dX9_check_57 fkX9_48 (fun _ => dsC_160 P W _) nn160 rfl rfl ?_
  refine r_get 63 (aI (G 110 4)) dX9_check_60 fkX9_96 (fun _ => dsC_110 P W _) nn110 rfl rfl ?_
  refine r_icmp_ge 87 66 dX9_check_63 rfl rfl ?_ ?_
  · refine SS.ex ?_
    exact r_return dX9_check_87 rfl
  · refine r_aload_n 67 0 dX9_check_66 rfl rfl rfl ?_
    refine r_get 70 (aR 130) dX9_check_67 fkX9_52 (fun _ => dsC_160 P W _) nn160 rfl rfl ?_
    refine r_callvI 73 (Mc := MFt_is P W) (o := 130) (as := []) (st := []) dX9_check_70 rfl (c_Ft_is P W G) lkX9_99 (cmFt_is P W) rfl rfl rfl (fun _ => dsC_130 P W _) nn130 rfl (Nat.le_of_ble_eq_true rfl) (Nat.le_of_ble_eq_true rfl) (fun _ => rfl) rfl (fun z11 G12 => ?_)
    refine r_if_ne 87 76 dX9_check_73 rfl rfl ?_ ?_
    · refine SS.ex ?_
      exact r_return dX9_check_87 rfl
    · refine r_aload_n 77 0 dX9_check_76 rfl rfl rfl ?_
      refine r_iload_n 78 1 dX9_check_77 rfl rfl rfl ?_
      refine r_callvV 81 (Mc := MCk_step P W) (o := 160) (as := [aI x1]) (st := []) dX9_check_78 rfl (c_Ck_step P W x1 G12) lkX9_103 (cmCk_step P W) rfl rfl rfl (fun _ => dsC_160 P W _) nn160 rfl (Nat.le_of_ble_eq_true rfl) (Nat.le_of_ble_eq_true rfl) (fun _ => rfl) rfl (fun z13 G14 => ?_)
      refine r_iinc 84 [(1, aI (x1 + 1)), (0, aR 160)] 1 dX9_check_81 rfl rfl rfl rfl ?_
      refine r_goto 55 dX9_check_84 rfl ?_
      refine r_to [1, 0] [(0, aR 160), (1, aI (x1 + 1))] rfl ?_
      exact SS.back (hX55 (x1 + 1, G14))
theorem sl_Ck_check_55 (P W : Int) (x1 : Int) (G : St) : SS (MCk_check P W) some 55 [(0, aR 160), (1, aI x1)] [] G (Ck_check_l55 P W x1 G) := by
  exact SS.loop (σ := Int × St) (fun s => [(0, aR 160), (1, aI (s.1))]) (fun s => s.2) (fun s => Ck_check_s55 P W s.1 s.2) (fun X55 hX55 s => s_Ck_check_s55 P W   X55 hX55 s.1 s.2) (x1, G)
theorem s_Ck_check (P W : Int) (G : St) : SS (MCk_check P W) some 0 [(0, aR 160)] [] G (Ck_check P W G) := by
  refine r_aload_n 1 0 dX9_check_0 rfl rfl rfl ?_
  refine r_get 4 (aR 190) dX9_check_1 fkX9_12 (fun _ => dsC_160 P W _) nn160 rfl rfl ?_
  refine r_iconst 5 0 dX9_check_4 rfl rfl ?_
  refine r_putI 8 dX9_check_5 fkX9_72 (fun _ => dsC_190 P W _) nn190 rfl rfl ?_
  refine ss_tk (fun G1 => ?_)
  refine r_aload_n 9 0 dX9_check_8 rfl rfl rfl ?_
  refine r_iconst 10 0 dX9_check_9 rfl rfl ?_
  refine r_putI 13 dX9_check_10 fkX9_56 (fun _ => dsC_160 P W _) nn160 rfl rfl ?_
  refine ss_tk (fun G2 => ?_)
  refine r_aload_n 14 0 dX9_check_13 rfl rfl rfl ?_
  refine r_iconst 15 0 dX9_check_14 rfl rfl ?_
  refine r_putI 18 dX9_check_15 fkX9_75 (fun _ => dsC_160 P W _) nn160 rfl rfl ?_
  refine ss_tk (fun G3 => ?_)
  refine r_aload_n 19 0 dX9_check_18 rfl rfl rfl ?_
  refine r_iconst 20 0 dX9_check_19 rfl rfl ?_
  refine r_putI 23 dX9_check_20 fkX9_78 (fun _ => dsC_160 P W _) nn160 rfl rfl ?_
  refine ss_tk (fun G4 => ?_)
  refine r_aload_n 24 0 dX9_check_23 rfl rfl rfl ?_
  refine r_iconst 25 0 dX9_check_24 rfl rfl ?_
  refine r_putI 28 dX9_check_25 fkX9_81 (fun _ => dsC_160 P W _) nn160 rfl rfl ?_
  refine ss_tk (fun G5 => ?_)
  refine r_aload_n 29 0 dX9_check_28 rfl rfl rfl ?_
  refine r_iconst 30 0 dX9_check_29 rfl rfl ?_
  refine r_putI 33 dX9_check_30 fkX9_84 (fun _ => dsC_160 P W _) nn160 rfl rfl ?_
  refine ss_tk (fun G6 => ?_)
  refine r_aload_n 34 0 dX9_check_33 rfl rfl rfl ?_
  refine r_iconst 35 0 dX9_check_34 rfl rfl ?_
  refine r_putI 38 dX9_check_35 fkX9_87 (fun _ => dsC_160 P W _) nn160 rfl rfl ?_
  refine ss_tk (fun G7 => ?_)
  refine r_aload_n 39 0 dX9_check_38 rfl rfl rfl ?_
  refine r_iconst 40 (-1) dX9_check_39 rfl rfl ?_
  refine r_putI 43 dX9_check_40 fkX9_65 (fun _ => dsC_160 P W _) nn160 rfl rfl ?_
  refine ss_tk (fun G8 => ?_)
  refine r_aload_n 44 0 dX9_check_43 rfl rfl rfl ?_
  refine r_iconst 45 0 dX9_check_44 rfl rfl ?_
  refine r_putI 48 dX9_check_45 fkX9_90 (fun _ => dsC_160 P W _) nn160 rfl rfl ?_
  refine ss_tk (fun G9 => ?_)
  refine r_aload_n 49 0 dX9_check_48 rfl rfl rfl ?_
  refine r_iconst 50 0 dX9_check_49 rfl rfl ?_
  refine r_putI 53 dX9_check_50 fkX9_93 (fun _ => dsC_160 P W _) nn160 rfl rfl ?_
  refine ss_tk (fun G10 => ?_)
  refine r_iconst 54 0 dX9_check_53 rfl rfl ?_
  refine r_istore_n 55 [(1, aI 0), (0, aR 160)] dX9_check_54 rfl rfl rfl rfl ?_
  refine r_to [1, 0] [(0, aR 160), (1, aI 0)] rfl ?_
  exact sl_Ck_check_55 P W 0 G10
theorem c_Ck_check (P W : Int) (G : St) : MG (MCk_check P W) [aR 160] G (Ck_check P W G) := MG.of plX9 (Nat.le_of_ble_eq_true rfl) (s_Ck_check P W G)
theorem s_Cd_clear (P W : Int) (G : St) : SS (MCd_clear P W) some 0 [(0, aR 110)] [] G (Cd_clear G) := by
  refine r_aload_n 1 0 dX2_clear_0 rfl rfl rfl ?_
  refine r_iconst 2 0 dX2_clear_1 rfl rfl ?_
  refine r_putI 5 dX2_clear_2 fkX2_27 (fun _ => dsC_110 P W _) nn110 rfl rfl ?_
  refine ss_tk (fun G1 => ?_)
  exact r_return dX2_clear_5 rfl
theorem c_Cd_clear (P W : Int) (G : St) : MG (MCd_clear P W) [aR 110] G (Cd_clear G) := MG.of plX2 (Nat.le_of_ble_eq_true rfl) (s_Cd_clear P W G)
theorem s_Ft_clear (P W : Int) (G : St) : SS (MFt_clear P W) some 0 [(0, aR 130)] [] G (Ft_clear G) := by
  refine r_aload_n 1 0 dX4_clear_0 rfl rfl rfl ?_
  refine r_iconst 2 0 dX4_clear_1 rfl rfl ?_
  refine r_putI 5 dX4_clear_2 fkX4_9 (fun _ => dsC_130 P W _) nn130 rfl rfl ?_
  refine ss_tk (fun G1 => ?_)
  refine r_aload_n 6 0 dX4_clear_5 rfl rfl rfl ?_
  refine r_iconst 7 (-1) dX4_clear_6 rfl rfl ?_
  refine r_putI 10 dX4_clear_7 fkX4_15 (fun _ => dsC_130 P W _) nn130 rfl rfl ?_
  refine ss_tk (fun G2 => ?_)
  exact r_return dX4_clear_10 rfl
theorem c_Ft_clear (P W : Int) (G : St) : MG (MFt_clear P W) [aR 130] G (Ft_clear G) := MG.of plX4 (Nat.le_of_ble_eq_true rfl) (s_Ft_clear P W G)
theorem s_Nm_clear (P W : Int) (G : St) : SS (MNm_clear P W) some 0 [(0, aR 120)] [] G (Nm_clear G) := by
  refine r_aload_n 1 0 dX3_clear_0 rfl rfl rfl ?_
  refine r_iconst 2 0 dX3_clear_1 rfl rfl ?_
  refine r_putI 5 dX3_clear_2 fkX3_22 (fun _ => dsC_120 P W _) nn120 rfl rfl ?_
  refine ss_tk (fun G1 => ?_)
  refine r_aload_n 6 0 dX3_clear_5 rfl rfl rfl ?_
  refine r_iconst 7 0 dX3_clear_6 rfl rfl ?_
  refine r_putI 10 dX3_clear_7 fkX3_26 (fun _ => dsC_120 P W _) nn120 rfl rfl ?_
  refine ss_tk (fun G2 => ?_)
  exact r_return dX3_clear_10 rfl
theorem c_Nm_clear (P W : Int) (G : St) : MG (MNm_clear P W) [aR 120] G (Nm_clear G) := MG.of plX3 (Nat.le_of_ble_eq_true rfl) (s_Nm_clear P W G)
theorem s_Pl_sort_b290 (P W : Int) (X210 : Int × St → Option (Int × St)) (hX210 : ∀ s, So (MPl_sort P W) 210 [(0, aR 220), (1, aI (s.1))] [] s.2 (X210 s)) (x1 : Int) (G : St) : SS (MPl_sort P W) (lk X210 some) 290 [(0, aR 220), (1, aI x1)] [] G (Pl_sort_b290 x1 G) := by
  refine r_iinc 293 [(1, aI (x1 + 1)), (0, aR 220)] 1 dX13_sort_290 rfl rfl rfl rfl ?_
  refine r_goto 210 dX13_sort_293 rfl ?_
  refine r_to [1, 0] [(0, aR 220), (1, aI (x1 + 1))] rfl ?_
  exact SS.back (hX210 (x1 + 1, G))
theorem s_Pl_sort_s210 (P W : Int) (X210 : Int × St → Option (Int × St)) (hX210 : ∀ s, So (MPl_sort P W) 210 [(0, aR 220), (1, aI (s.1))] [] s.2 (X210 s)) (x1 : Int) (G : St) : SS (MPl_sort P W) (lk X210 some) 210 [(0, aR 220), (1, aI x1)] [] G (Pl_sort_s210 x1 G) := by
  refine r_iload_n 211 1 dX13_sort_210 rfl rfl rfl ?_
  refine r_aload_n 212 0 dX13_sort_211 rfl rfl rfl ?_
  refine r_get 215 (aR 140) dX13_sort_212 fkX13_35 (fun _ => dsC_220 P W _) nn220 rfl rfl ?_
  refine r_get 218 (aI (G 140 4)) dX13_sort_215 fkX13_89 (fun _ => dsC_140 P W _) nn140 rfl rfl ?_
  refine r_icmp_ge 296 221 dX13_sort_218 rfl rfl ?_ ?_
  · refine SS.ex ?_
    exact r_return dX13_sort_296 rfl
  · refine r_aload_n 222 0 dX13_sort_221 rfl rfl rfl ?_
    refine r_get 225 (aR 140) dX13_sort_222 fkX13_35 (fun _ => dsC_220 P W _) nn220 rfl rfl ?_
    refine r_get 228 (aR 143) dX13_sort_225 fkX13_91 (fun _ => dsC_140 P W _) nn140 rfl rfl ?_
    refine r_iload_n 229 1 dX13_sort_228 rfl rfl rfl ?_
    refine r_sald 230 dX13_sort_229 (fun _ _ _ => dsC_143 P W _) (fun _ _ => nn143) rfl ?_
    refine r_istore_n 231 [(2, aI (G 143 x1)), (0, aR 220), (1, aI x1)] dX13_sort_230 rfl rfl rfl rfl ?_
    refine r_aload_n 232 1 dX13_sort_231 rfl rfl rfl ?_
    refine r_get 235 (aR 221) dX13_sort_232 fkX13_10 (fun _ => dsC_220 P W _) nn220 rfl rfl ?_
    refine r_aload_n 236 1 dX13_sort_235 rfl rfl rfl ?_
    refine r_get 239 (aR 225) dX13_sort_236 fkX13_25 (fun _ => dsC_220 P W _) nn220 rfl rfl ?_
    refine r_iload_n 240 0 dX13_sort_239 rfl rfl rfl ?_
    refine r_iald 241 dX13_sort_240 (fun _ _ _ => dsC_225 P W _) (fun _ _ => nn225) rfl ?_
    refine r_iload_n 242 2 dX13_sort_241 rfl rfl rfl ?_
    refine r_iast 243 dX13_sort_242 (fun _ _ _ => dsC_221 P W _) (fun _ _ => nn221) rfl ?_
    refine ss_tk (fun G1 => ?_)
    refine r_aload_n 244 1 dX13_sort_243 rfl rfl rfl ?_
    refine r_get 247 (aR 225) dX13_sort_244 fkX13_25 (fun _ => dsC_220 P W _) nn220 rfl rfl ?_
    refine r_iload_n 248 0 dX13_sort_247 rfl rfl rfl ?_
    refine r_dup2 249 dX13_sort_248 rfl rfl rfl ?_
    refine r_iald 250 dX13_sort_249 (fun _ _ _ => dsC_225 P W _) (fun _ _ => nn225) rfl ?_
    refine r_iconst 251 1 dX13_sort_250 rfl rfl ?_
    refine r_iadd 252 dX13_sort_251 rfl ?_
    refine r_iast 253 dX13_sort_252 (fun _ _ _ => dsC_225 P W _) (fun _ _ => nn225) rfl ?_
    refine ss_tk (fun G2 => ?_)
    refine r_aload_n 254 1 dX13_sort_253 rfl rfl rfl ?_
    refine r_get 257 (aR 140) dX13_sort_254 fkX13_35 (fun _ => dsC_220 P W _) nn220 rfl rfl ?_
    refine r_get 260 (aR 144) dX13_sort_257 fkX13_95 (fun _ => dsC_140 P W _) nn140 rfl rfl ?_
    refine r_iload_n 261 2 dX13_sort_260 rfl rfl rfl ?_
    refine r_zald 262 dX13_sort_261 (fun _ _ _ => dsC_144 P W _) (fun _ _ => nn144) rfl ?_
    refine r_if_ne 268 265 dX13_sort_262 rfl rfl ?_ ?_
    · refine r_aload_n 269 1 dX13_sort_268 rfl rfl rfl ?_
      refine r_get 272 (aR 222) dX13_sort_269 fkX13_16 (fun _ => dsC_220 P W _) nn220 rfl rfl ?_
      refine r_aload_n 273 1 dX13_sort_272 rfl rfl rfl ?_
      refine r_get 276 (aR 226) dX13_sort_273 fkX13_28 (fun _ => dsC_220 P W _) nn220 rfl rfl ?_
      refine r_iload_n 277 0 dX13_sort_276 rfl rfl rfl ?_
      refine r_iald 278 dX13_sort_277 (fun _ _ _ => dsC_226 P W _) (fun _ _ => nn226) rfl ?_
      refine r_iload_n 279 2 dX13_sort_278 rfl rfl rfl ?_
      refine r_iast 280 dX13_sort_279 (fun _ _ _ => dsC_222 P W _) (fun _ _ => nn222) rfl ?_
      refine ss_tk (fun G3 => ?_)
      refine r_aload_n 281 1 dX13_sort_280 rfl rfl rfl ?_
      refine r_get 284 (aR 226) dX13_sort_281 fkX13_28 (fun _ => dsC_220 P W _) nn220 rfl rfl ?_
      refine r_iload_n 285 0 dX13_sort_284 rfl rfl rfl ?_
      refine r_dup2 286 dX13_sort_285 rfl rfl rfl ?_
      refine r_iald 287 dX13_sort_286 (fun _ _ _ => dsC_226 P W _) (fun _ _ => nn226) rfl ?_
      refine r_iconst 288 1 dX13_sort_287 rfl rfl ?_
      refine r_iadd 289 dX13_sort_288 rfl ?_
      refine r_iast 290 dX13_sort_289 (fun _ _ _ => dsC_226 P W _) (fun _ _ => nn226) rfl ?_
      refine ss_tk (fun G4 => ?_)
      refine r_to [1, 2] [(0, aR 220), (1, aI x1)] rfl ?_
      exact s_Pl_sort_b290 P W X210 hX210 x1 G4
    · refine r_goto 290 dX13_sort_265 rfl ?_
      refine r_to [1, 2] [(0, aR 220), (1, aI x1)] rfl ?_
      exact s_Pl_sort_b290 P W X210 hX210 x1 G2
theorem sl_Pl_sort_210 (P W : Int) (x1 : Int) (G : St) : SS (MPl_sort P W) some 210 [(0, aR 220), (1, aI x1)] [] G (Pl_sort_l210 x1 G) := by
  exact SS.loop (σ := Int × St) (fun s => [(0, aR 220), (1, aI (s.1))]) (fun s => s.2) (fun s => Pl_sort_s210 s.1 s.2) (fun X210 hX210 s => s_Pl_sort_s210 P W   X210 hX210 s.1 s.2) (x1, G)
theorem s_Pl_sort_s167 (P W : Int) (X167 : Int × St → Option (Int × St)) (hX167 : ∀ s, So (MPl_sort P W) 167 [(0, aR 220), (1, aI (s.1))] [] s.2 (X167 s)) (x1 : Int) (G : St) : SS (MPl_sort P W) (lk X167 some) 167 [(0, aR 220), (1, aI x1)] [] G (Pl_sort_s167 x1 G) := by
  refine r_iload_n 168 1 dX13_sort_167 rfl rfl rfl ?_
  refine r_aload_n 169 0 dX13_sort_168 rfl rfl rfl ?_
  refine r_get 172 (aR 140) dX13_sort_169 fkX13_35 (fun _ => dsC_220 P W _) nn220 rfl rfl ?_
  refine r_get 175 (aI (G 140 7)) dX13_sort_172 fkX13_84 (fun _ => dsC_140 P W _) nn140 rfl rfl ?_
  refine r_icmp_gt 208 178 dX13_sort_175 rfl rfl ?_ ?_
  · refine SS.ex ?_
    refine r_iconst 209 0 dX13_sort_208 rfl rfl ?_
    refine r_istore_n 210 [(1, aI 0), (0, aR 220)] dX13_sort_209 rfl rfl rfl rfl ?_
    refine r_to [1, 0] [(0, aR 220), (1, aI 0)] rfl ?_
    exact sl_Pl_sort_210 P W 0 G
  · refine r_aload_n 179 0 dX13_sort_178 rfl rfl rfl ?_
    refine r_get 182 (aR 225) dX13_sort_179 fkX13_25 (fun _ => dsC_220 P W _) nn220 rfl rfl ?_
    refine r_iload_n 183 1 dX13_sort_182 rfl rfl rfl ?_
    refine r_aload_n 184 0 dX13_sort_183 rfl rfl rfl ?_
    refine r_get 187 (aR 223) dX13_sort_184 fkX13_19 (fun _ => dsC_220 P W _) nn220 rfl rfl ?_
    refine r_iload_n 188 1 dX13_sort_187 rfl rfl rfl ?_
    refine r_iald 189 dX13_sort_188 (fun _ _ _ => dsC_223 P W _) (fun _ _ => nn223) rfl ?_
    refine r_iast 190 dX13_sort_189 (fun _ _ _ => dsC_225 P W _) (fun _ _ => nn225) rfl ?_
    refine ss_tk (fun G5 => ?_)
    refine r_aload_n 191 0 dX13_sort_190 rfl rfl rfl ?_
    refine r_get 194 (aR 226) dX13_sort_191 fkX13_28 (fun _ => dsC_220 P W _) nn220 rfl rfl ?_
    refine r_iload_n 195 1 dX13_sort_194 rfl rfl rfl ?_
    refine r_aload_n 196 0 dX13_sort_195 rfl rfl rfl ?_
    refine r_get 199 (aR 224) dX13_sort_196 fkX13_22 (fun _ => dsC_220 P W _) nn220 rfl rfl ?_
    refine r_iload_n 200 1 dX13_sort_199 rfl rfl rfl ?_
    refine r_iald 201 dX13_sort_200 (fun _ _ _ => dsC_224 P W _) (fun _ _ => nn224) rfl ?_
    refine r_iast 202 dX13_sort_201 (fun _ _ _ => dsC_226 P W _) (fun _ _ => nn226) rfl ?_
    refine ss_tk (fun G6 => ?_)
    refine r_iinc 205 [(1, aI (x1 + 1)), (0, aR 220)] 1 dX13_sort_202 rfl rfl rfl rfl ?_
    refine r_goto 167 dX13_sort_205 rfl ?_
    refine r_to [1, 0] [(0, aR 220), (1, aI (x1 + 1))] rfl ?_
    exact SS.back (hX167 (x1 + 1, G6))
theorem sl_Pl_sort_167 (P W : Int) (x1 : Int) (G : St) : SS (MPl_sort P W) some 167 [(0, aR 220), (1, aI x1)] [] G (Pl_sort_l167 x1 G) := by
  exact SS.loop (σ := Int × St) (fun s => [(0, aR 220), (1, aI (s.1))]) (fun s => s.2) (fun s => Pl_sort_s167 s.1 s.2) (fun X167 hX167 s => s_Pl_sort_s167 P W   X167 hX167 s.1 s.2) (x1, G)
theorem s_Pl_sort_s112 (P W : Int) (X112 : Int × St → Option (Int × St)) (hX112 : ∀ s, So (MPl_sort P W) 112 [(0, aR 220), (1, aI (s.1))] [] s.2 (X112 s)) (x1 : Int) (G : St) : SS (MPl_sort P W) (lk X112 some) 112 [(0, aR 220), (1, aI x1)] [] G (Pl_sort_s112 x1 G) := by
  refine r_iload_n 113 1 dX13_sort_112 rfl rfl rfl ?_
  refine r_aload_n 114 0 dX13_sort_113 rfl rfl rfl ?_
  refine r_get 117 (aR 140) dX13_sort_114 fkX13_35 (fun _ => dsC_220 P W _) nn220 rfl rfl ?_
  refine r_get 120 (aI (G 140 7)) dX13_sort_117 fkX13_84 (fun _ => dsC_140 P W _) nn140 rfl rfl ?_
  refine r_iconst 121 1 dX13_sort_120 rfl rfl ?_
  refine r_iadd 122 dX13_sort_121 rfl ?_
  refine r_icmp_gt 165 125 dX13_sort_122 rfl rfl ?_ ?_
  · refine SS.ex ?_
    refine r_iconst 166 0 dX13_sort_165 rfl rfl ?_
    refine r_istore_n 167 [(1, aI 0), (0, aR 220)] dX13_sort_166 rfl rfl rfl rfl ?_
    refine r_to [1, 0] [(0, aR 220), (1, aI 0)] rfl ?_
    exact sl_Pl_sort_167 P W 0 G
  · refine r_aload_n 126 0 dX13_sort_125 rfl rfl rfl ?_
    refine r_get 129 (aR 223) dX13_sort_126 fkX13_19 (fun _ => dsC_220 P W _) nn220 rfl rfl ?_
    refine r_iload_n 130 1 dX13_sort_129 rfl rfl rfl ?_
    refine r_dup2 131 dX13_sort_130 rfl rfl rfl ?_
    refine r_iald 132 dX13_sort_131 (fun _ _ _ => dsC_223 P W _) (fun _ _ => nn223) rfl ?_
    refine r_aload_n 133 0 dX13_sort_132 rfl rfl rfl ?_
    refine r_get 136 (aR 223) dX13_sort_133 fkX13_19 (fun _ => dsC_220 P W _) nn220 rfl rfl ?_
    refine r_iload_n 137 1 dX13_sort_136 rfl rfl rfl ?_
    refine r_iconst 138 1 dX13_sort_137 rfl rfl ?_
    refine r_isub 139 dX13_sort_138 rfl ?_
    refine r_iald 140 dX13_sort_139 (fun _ _ _ => dsC_223 P W _) (fun _ _ => nn223) rfl ?_
    refine r_iadd 141 dX13_sort_140 rfl ?_
    refine r_iast 142 dX13_sort_141 (fun _ _ _ => dsC_223 P W _) (fun _ _ => nn223) rfl ?_
    refine ss_tk (fun G7 => ?_)
    refine r_aload_n 143 0 dX13_sort_142 rfl rfl rfl ?_
    refine r_get 146 (aR 224) dX13_sort_143 fkX13_22 (fun _ => dsC_220 P W _) nn220 rfl rfl ?_
    refine r_iload_n 147 1 dX13_sort_146 rfl rfl rfl ?_
    refine r_dup2 148 dX13_sort_147 rfl rfl rfl ?_
    refine r_iald 149 dX13_sort_148 (fun _ _ _ => dsC_224 P W _) (fun _ _ => nn224) rfl ?_
    refine r_aload_n 150 0 dX13_sort_149 rfl rfl rfl ?_
    refine r_get 153 (aR 224) dX13_sort_150 fkX13_22 (fun _ => dsC_220 P W _) nn220 rfl rfl ?_
    refine r_iload_n 154 1 dX13_sort_153 rfl rfl rfl ?_
    refine r_iconst 155 1 dX13_sort_154 rfl rfl ?_
    refine r_isub 156 dX13_sort_155 rfl ?_
    refine r_iald 157 dX13_sort_156 (fun _ _ _ => dsC_224 P W _) (fun _ _ => nn224) rfl ?_
    refine r_iadd 158 dX13_sort_157 rfl ?_
    refine r_iast 159 dX13_sort_158 (fun _ _ _ => dsC_224 P W _) (fun _ _ => nn224) rfl ?_
    refine ss_tk (fun G8 => ?_)
    refine r_iinc 162 [(1, aI (x1 + 1)), (0, aR 220)] 1 dX13_sort_159 rfl rfl rfl rfl ?_
    refine r_goto 112 dX13_sort_162 rfl ?_
    refine r_to [1, 0] [(0, aR 220), (1, aI (x1 + 1))] rfl ?_
    exact SS.back (hX112 (x1 + 1, G8))
theorem sl_Pl_sort_112 (P W : Int) (x1 : Int) (G : St) : SS (MPl_sort P W) some 112 [(0, aR 220), (1, aI x1)] [] G (Pl_sort_l112 x1 G) := by
  exact SS.loop (σ := Int × St) (fun s => [(0, aR 220), (1, aI (s.1))]) (fun s => s.2) (fun s => Pl_sort_s112 s.1 s.2) (fun X112 hX112 s => s_Pl_sort_s112 P W   X112 hX112 s.1 s.2) (x1, G)
theorem s_Pl_sort_b102 (P W : Int) (X37 : Int × St → Option (Int × St)) (hX37 : ∀ s, So (MPl_sort P W) 37 [(0, aR 220), (1, aI (s.1))] [] s.2 (X37 s)) (x1 : Int) (s0 : Int) (s1 : Int) (s2 : Int) (G : St) : SS (MPl_sort P W) (lk X37 some) 102 [(0, aR 220), (1, aI x1)] [aI s0, aI s1, aI s2, aR 224] G (Pl_sort_b102 x1 s0 s1 s2 G) := by
  refine r_iadd 103 dX13_sort_102 rfl ?_
  refine r_iast 104 dX13_sort_103 (fun _ _ _ => dsC_224 P W _) (fun _ _ => nn224) rfl ?_
  refine ss_tk (fun G10 => ?_)
  refine r_iinc 107 [(1, aI (x1 + 1)), (0, aR 220)] 1 dX13_sort_104 rfl rfl rfl rfl ?_
  refine r_goto 37 dX13_sort_107 rfl ?_
  refine r_to [1, 0] [(0, aR 220), (1, aI (x1 + 1))] rfl ?_
  exact SS.back (hX37 (x1 + 1, G10))
theorem s_Pl_sort_s37 (P W : Int) (X37 : Int × St → Option (Int × St)) (hX37 : ∀ s, So (MPl_sort P W) 37 [(0, aR 220), (1, aI (s.1))] [] s.2 (X37 s)) (x1 : Int) (G : St) : SS (MPl_sort P W) (lk X37 some) 37 [(0, aR 220), (1, aI x1)] [] G (Pl_sort_s37 x1 G) := by
  refine r_iload_n 38 1 dX13_sort_37 rfl rfl rfl ?_
  refine r_aload_n 39 0 dX13_sort_38 rfl rfl rfl ?_
  refine r_get 42 (aR 140) dX13_sort_39 fkX13_35 (fun _ => dsC_220 P W _) nn220 rfl rfl ?_
  refine r_get 45 (aI (G 140 4)) dX13_sort_42 fkX13_89 (fun _ => dsC_140 P W _) nn140 rfl rfl ?_
  refine r_icmp_ge 110 48 dX13_sort_45 rfl rfl ?_ ?_
  · refine SS.ex ?_
    refine r_iconst 111 1 dX13_sort_110 rfl rfl ?_
    refine r_istore_n 112 [(1, aI 1), (0, aR 220)] dX13_sort_111 rfl rfl rfl rfl ?_
    refine r_to [1, 0] [(0, aR 220), (1, aI 1)] rfl ?_
    exact sl_Pl_sort_112 P W 1 G
  · refine r_aload_n 49 0 dX13_sort_48 rfl rfl rfl ?_
    refine r_get 52 (aR 223) dX13_sort_49 fkX13_19 (fun _ => dsC_220 P W _) nn220 rfl rfl ?_
    refine r_aload_n 53 0 dX13_sort_52 rfl rfl rfl ?_
    refine r_get 56 (aR 140) dX13_sort_53 fkX13_35 (fun _ => dsC_220 P W _) nn220 rfl rfl ?_
    refine r_get 59 (aR 143) dX13_sort_56 fkX13_91 (fun _ => dsC_140 P W _) nn140 rfl rfl ?_
    refine r_iload_n 60 1 dX13_sort_59 rfl rfl rfl ?_
    refine r_sald 61 dX13_sort_60 (fun _ _ _ => dsC_143 P W _) (fun _ _ => nn143) rfl ?_
    refine r_iconst 62 1 dX13_sort_61 rfl rfl ?_
    refine r_iadd 63 dX13_sort_62 rfl ?_
    refine r_dup2 64 dX13_sort_63 rfl rfl rfl ?_
    refine r_iald 65 dX13_sort_64 (fun _ _ _ => dsC_223 P W _) (fun _ _ => nn223) rfl ?_
    refine r_iconst 66 1 dX13_sort_65 rfl rfl ?_
    refine r_iadd 67 dX13_sort_66 rfl ?_
    refine r_iast 68 dX13_sort_67 (fun _ _ _ => dsC_223 P W _) (fun _ _ => nn223) rfl ?_
    refine ss_tk (fun G9 => ?_)
    refine r_aload_n 69 0 dX13_sort_68 rfl rfl rfl ?_
    refine r_get 72 (aR 224) dX13_sort_69 fkX13_22 (fun _ => dsC_220 P W _) nn220 rfl rfl ?_
    refine r_aload_n 73 0 dX13_sort_72 rfl rfl rfl ?_
    refine r_get 76 (aR 140) dX13_sort_73 fkX13_35 (fun _ => dsC_220 P W _) nn220 rfl rfl ?_
    refine r_get 79 (aR 143) dX13_sort_76 fkX13_91 (fun _ => dsC_140 P W _) nn140 rfl rfl ?_
    refine r_iload_n 80 1 dX13_sort_79 rfl rfl rfl ?_
    refine r_sald 81 dX13_sort_80 (fun _ _ _ => dsC_143 P W _) (fun _ _ => nn143) rfl ?_
    refine r_iconst 82 1 dX13_sort_81 rfl rfl ?_
    refine r_iadd 83 dX13_sort_82 rfl ?_
    refine r_dup2 84 dX13_sort_83 rfl rfl rfl ?_
    refine r_iald 85 dX13_sort_84 (fun _ _ _ => dsC_224 P W _) (fun _ _ => nn224) rfl ?_
    refine r_aload_n 86 0 dX13_sort_85 rfl rfl rfl ?_
    refine r_get 89 (aR 140) dX13_sort_86 fkX13_35 (fun _ => dsC_220 P W _) nn220 rfl rfl ?_
    refine r_get 92 (aR 144) dX13_sort_89 fkX13_95 (fun _ => dsC_140 P W _) nn140 rfl rfl ?_
    refine r_iload_n 93 1 dX13_sort_92 rfl rfl rfl ?_
    refine r_zald 94 dX13_sort_93 (fun _ _ _ => dsC_144 P W _) (fun _ _ => nn144) rfl ?_
    refine SS.phi (fun VV_ => Pl_sort_b102 x1 VV_ (G9 224 ((G9 143 x1) + 1)) ((G9 143 x1) + 1) G9) ?_
    refine r_if_eq 101 97 dX13_sort_94 rfl rfl ?_ ?_
    · refine r_iconst 102 0 dX13_sort_101 rfl rfl ?_
      exact s_Pl_sort_b102 P W X37 hX37 x1 0 (G9 224 ((G9 143 x1) + 1)) ((G9 143 x1) + 1) G9
    · refine r_iconst 98 1 dX13_sort_97 rfl rfl ?_
      refine r_goto 102 dX13_sort_98 rfl ?_
      exact s_Pl_sort_b102 P W X37 hX37 x1 1 (G9 224 ((G9 143 x1) + 1)) ((G9 143 x1) + 1) G9
theorem sl_Pl_sort_37 (P W : Int) (x1 : Int) (G : St) : SS (MPl_sort P W) some 37 [(0, aR 220), (1, aI x1)] [] G (Pl_sort_l37 x1 G) := by
  exact SS.loop (σ := Int × St) (fun s => [(0, aR 220), (1, aI (s.1))]) (fun s => s.2) (fun s => Pl_sort_s37 s.1 s.2) (fun X37 hX37 s => s_Pl_sort_s37 P W   X37 hX37 s.1 s.2) (x1, G)
theorem s_Pl_sort_s2 (P W : Int) (X2 : Int × St → Option (Int × St)) (hX2 : ∀ s, So (MPl_sort P W) 2 [(0, aR 220), (1, aI (s.1))] [] s.2 (X2 s)) (x1 : Int) (G : St) : SS (MPl_sort P W) (lk X2 some) 2 [(0, aR 220), (1, aI x1)] [] G (Pl_sort_s2 x1 G) := by
  refine r_iload_n 3 1 dX13_sort_2 rfl rfl rfl ?_
  refine r_aload_n 4 0 dX13_sort_3 rfl rfl rfl ?_
  refine r_get 7 (aR 140) dX13_sort_4 fkX13_35 (fun _ => dsC_220 P W _) nn220 rfl rfl ?_
  refine r_get 10 (aI (G 140 7)) dX13_sort_7 fkX13_84 (fun _ => dsC_140 P W _) nn140 rfl rfl ?_
  refine r_iconst 11 1 dX13_sort_10 rfl rfl ?_
  refine r_iadd 12 dX13_sort_11 rfl ?_
  refine r_icmp_gt 35 15 dX13_sort_12 rfl rfl ?_ ?_
  · refine SS.ex ?_
    refine r_iconst 36 0 dX13_sort_35 rfl rfl ?_
    refine r_istore_n 37 [(1, aI 0), (0, aR 220)] dX13_sort_36 rfl rfl rfl rfl ?_
    refine r_to [1, 0] [(0, aR 220), (1, aI 0)] rfl ?_
    exact sl_Pl_sort_37 P W 0 G
  · refine r_aload_n 16 0 dX13_sort_15 rfl rfl rfl ?_
    refine r_get 19 (aR 223) dX13_sort_16 fkX13_19 (fun _ => dsC_220 P W _) nn220 rfl rfl ?_
    refine r_iload_n 20 1 dX13_sort_19 rfl rfl rfl ?_
    refine r_iconst 21 0 dX13_sort_20 rfl rfl ?_
    refine r_iast 22 dX13_sort_21 (fun _ _ _ => dsC_223 P W _) (fun _ _ => nn223) rfl ?_
    refine ss_tk (fun G11 => ?_)
    refine r_aload_n 23 0 dX13_sort_22 rfl rfl rfl ?_
    refine r_get 26 (aR 224) dX13_sort_23 fkX13_22 (fun _ => dsC_220 P W _) nn220 rfl rfl ?_
    refine r_iload_n 27 1 dX13_sort_26 rfl rfl rfl ?_
    refine r_iconst 28 0 dX13_sort_27 rfl rfl ?_
    refine r_iast 29 dX13_sort_28 (fun _ _ _ => dsC_224 P W _) (fun _ _ => nn224) rfl ?_
    refine ss_tk (fun G12 => ?_)
    refine r_iinc 32 [(1, aI (x1 + 1)), (0, aR 220)] 1 dX13_sort_29 rfl rfl rfl rfl ?_
    refine r_goto 2 dX13_sort_32 rfl ?_
    refine r_to [1, 0] [(0, aR 220), (1, aI (x1 + 1))] rfl ?_
    exact SS.back (hX2 (x1 + 1, G12))
theorem sl_Pl_sort_2 (P W : Int) (x1 : Int) (G : St) : SS (MPl_sort P W) some 2 [(0, aR 220), (1, aI x1)] [] G (Pl_sort_l2 x1 G) := by
  exact SS.loop (σ := Int × St) (fun s => [(0, aR 220), (1, aI (s.1))]) (fun s => s.2) (fun s => Pl_sort_s2 s.1 s.2) (fun X2 hX2 s => s_Pl_sort_s2 P W   X2 hX2 s.1 s.2) (x1, G)
theorem s_Pl_sort (P W : Int) (G : St) : SS (MPl_sort P W) some 0 [(0, aR 220)] [] G (Pl_sort G) := by
  refine r_iconst 1 0 dX13_sort_0 rfl rfl ?_
  refine r_istore_n 2 [(1, aI 0), (0, aR 220)] dX13_sort_1 rfl rfl rfl rfl ?_
  refine r_to [1, 0] [(0, aR 220), (1, aI 0)] rfl ?_
  exact sl_Pl_sort_2 P W 0 G
theorem c_Pl_sort (P W : Int) (G : St) : MG (MPl_sort P W) [aR 220] G (Pl_sort G) := MG.of plX13 (Nat.le_of_ble_eq_true rfl) (s_Pl_sort P W G)
theorem s_Pl_make_s135 (P W : Int) (X122 : Int × St → Option (Int × St)) (hX122 : ∀ s, So (MPl_make P W) 122 [(0, aR 220), (2, aI (s.1))] [] s.2 (X122 s)) (x2 : Int) (X135 : Int × St → Option (Int × St)) (hX135 : ∀ s, So (MPl_make P W) 135 [(0, aR 220), (2, aI x2), (3, aI (s.1))] [] s.2 (X135 s)) (x3 : Int) (G : St) : SS (MPl_make P W) (lk X135 (lk X122 some)) 135 [(0, aR 220), (2, aI x2), (3, aI x3)] [] G (Pl_make_s135 P W x2 x3 G) := by
  refine r_iload_n 136 2 dX13_make_135 rfl rfl rfl ?_
  refine r_aload_n 137 0 dX13_make_136 rfl rfl rfl ?_
  refine r_get 140 (aR 180) dX13_make_137 fkX13_39 (fun _ => dsC_220 P W _) nn220 rfl rfl ?_
  refine r_get 143 (aR 204) dX13_make_140 fkX13_75 (fun _ => dsC_180 P W _) nn180 rfl rfl ?_
  refine r_iload_n 144 1 dX13_make_143 rfl rfl rfl ?_
  refine r_iald 145 dX13_make_144 (fun _ _ _ => dsC_204 P W _) (fun _ _ => nn204) rfl ?_
  refine r_icmp_ge 192 148 dX13_make_145 rfl rfl ?_ ?_
  · refine SS.ex ?_
    refine r_iinc 195 [(2, aI (x2 + 1)), (0, aR 220), (3, aI x3)] 1 dX13_make_192 rfl rfl rfl rfl ?_
    refine r_goto 122 dX13_make_195 rfl ?_
    refine r_to [1, 0] [(0, aR 220), (2, aI (x2 + 1))] rfl ?_
    exact SS.back (hX122 (x2 + 1, G))
  · refine r_aload_n 149 0 dX13_make_148 rfl rfl rfl ?_
    refine r_get 152 (aR 229) dX13_make_149 fkX13_49 (fun _ => dsC_220 P W _) nn220 rfl rfl ?_
    refine r_aload_n 153 0 dX13_make_152 rfl rfl rfl ?_
    refine r_get 156 (aI (G 220 12)) dX13_make_153 fkX13_69 (fun _ => dsC_220 P W _) nn220 rfl rfl ?_
    refine r_aload_n 157 0 dX13_make_156 rfl rfl rfl ?_
    refine r_get 160 (aR 180) dX13_make_157 fkX13_39 (fun _ => dsC_220 P W _) nn220 rfl rfl ?_
    refine r_get 163 (aR 203) dX13_make_160 fkX13_78 (fun _ => dsC_180 P W _) nn180 rfl rfl ?_
    refine r_aload_n 164 0 dX13_make_163 rfl rfl rfl ?_
    refine r_get 167 (aR 180) dX13_make_164 fkX13_39 (fun _ => dsC_220 P W _) nn220 rfl rfl ?_
    refine r_get 170 (aI W) dX13_make_167 fkX13_81 (fun _ => dsC_180 P W _) nn180 rfl rfl ?_
    refine r_iload_n 171 1 dX13_make_170 rfl rfl rfl ?_
    refine r_imul 172 dX13_make_171 rfl ?_
    refine r_iload_n 173 2 dX13_make_172 rfl rfl rfl ?_
    refine r_iadd 174 dX13_make_173 rfl ?_
    refine r_iald 175 dX13_make_174 (fun _ _ _ => dsC_203 P W _) (fun _ _ => nn203) rfl ?_
    refine r_iast 176 dX13_make_175 (fun _ _ _ => dsC_229 P W _) (fun _ _ => nn229) rfl ?_
    refine ss_tk (fun G5 => ?_)
    refine r_aload_n 177 0 dX13_make_176 rfl rfl rfl ?_
    refine r_dup 178 dX13_make_177 rfl rfl ?_
    refine r_get 181 (aI (G5 220 12)) dX13_make_178 fkX13_69 (fun _ => dsC_220 P W _) nn220 rfl rfl ?_
    refine r_iconst 182 1 dX13_make_181 rfl rfl ?_
    refine r_iadd 183 dX13_make_182 rfl ?_
    refine r_putI 186 dX13_make_183 fkX13_69 (fun _ => dsC_220 P W _) nn220 rfl rfl ?_
    refine ss_tk (fun G6 => ?_)
    refine r_iinc 189 [(3, aI (x3 + 1)), (0, aR 220), (2, aI x2)] 2 dX13_make_186 rfl rfl rfl rfl ?_
    refine r_goto 135 dX13_make_189 rfl ?_
    refine r_to [1, 2, 0] [(0, aR 220), (2, aI x2), (3, aI (x3 + 1))] rfl ?_
    exact SS.back (hX135 (x3 + 1, G6))
theorem sl_Pl_make_135 (P W : Int) (X122 : Int × St → Option (Int × St)) (hX122 : ∀ s, So (MPl_make P W) 122 [(0, aR 220), (2, aI (s.1))] [] s.2 (X122 s)) (x2 : Int) (x3 : Int) (G : St) : SS (MPl_make P W) (lk X122 some) 135 [(0, aR 220), (2, aI x2), (3, aI x3)] [] G (Pl_make_l135 P W x2 x3 G) := by
  exact SS.loop (σ := Int × St) (fun s => [(0, aR 220), (2, aI x2), (3, aI (s.1))]) (fun s => s.2) (fun s => Pl_make_s135 P W x2 s.1 s.2) (fun X135 hX135 s => s_Pl_make_s135 P W X122 hX122 x2  X135 hX135 s.1 s.2) (x3, G)
theorem s_Pl_make_s122 (P W : Int) (X122 : Int × St → Option (Int × St)) (hX122 : ∀ s, So (MPl_make P W) 122 [(0, aR 220), (2, aI (s.1))] [] s.2 (X122 s)) (x2 : Int) (G : St) : SS (MPl_make P W) (lk X122 some) 122 [(0, aR 220), (2, aI x2)] [] G (Pl_make_s122 P W x2 G) := by
  refine r_iload_n 123 1 dX13_make_122 rfl rfl rfl ?_
  refine r_aload_n 124 0 dX13_make_123 rfl rfl rfl ?_
  refine r_get 127 (aR 180) dX13_make_124 fkX13_39 (fun _ => dsC_220 P W _) nn220 rfl rfl ?_
  refine r_get 130 (aI (G 180 32)) dX13_make_127 fkX13_72 (fun _ => dsC_180 P W _) nn180 rfl rfl ?_
  refine r_icmp_ge 198 133 dX13_make_130 rfl rfl ?_ ?_
  · refine SS.ex ?_
    exact r_return dX13_make_198 rfl
  · refine r_iconst 134 0 dX13_make_133 rfl rfl ?_
    refine r_istore_n 135 [(3, aI 0), (0, aR 220), (2, aI x2)] dX13_make_134 rfl rfl rfl rfl ?_
    refine r_to [1, 2, 0] [(0, aR 220), (2, aI x2), (3, aI 0)] rfl ?_
    exact sl_Pl_make_135 P W X122 hX122 x2 0 G
theorem sl_Pl_make_122 (P W : Int) (x2 : Int) (G : St) : SS (MPl_make P W) some 122 [(0, aR 220), (2, aI x2)] [] G (Pl_make_l122 P W x2 G) := by
  exact SS.loop (σ := Int × St) (fun s => [(0, aR 220), (2, aI (s.1))]) (fun s => s.2) (fun s => Pl_make_s122 P W s.1 s.2) (fun X122 hX122 s => s_Pl_make_s122 P W   X122 hX122 s.1 s.2) (x2, G)
theorem s_Pl_make_b93 (P W : Int) (X8 : Int × Int × St → Option (Int × St)) (hX8 : ∀ s, So (MPl_make P W) 8 [(0, aR 220), (1, aI (s.1)), (2, aI (s.2.1))] [] s.2.2 (X8 s)) (x2 : Int) (X25 : Int × Int × St → Option (Int × St)) (hX25 : ∀ s, So (MPl_make P W) 25 [(0, aR 220), (1, aI (s.1)), (2, aI x2), (3, aI (s.2.1))] [] s.2.2 (X25 s)) (x1 : Int) (x3 : Int) (G : St) : SS (MPl_make P W) (lk X25 (lk X8 some)) 93 [(0, aR 220), (1, aI x1), (2, aI x2), (3, aI x3)] [] G (Pl_make_b93 P W x1 x2 x3 G) := by
  refine r_iinc 96 [(3, aI (x3 + 1)), (0, aR 220), (1, aI x1), (2, aI x2)] 3 dX13_make_93 rfl rfl rfl rfl ?_
  refine r_goto 25 dX13_make_96 rfl ?_
  refine r_to [1, 2, 3, 0] [(0, aR 220), (1, aI x1), (2, aI x2), (3, aI (x3 + 1))] rfl ?_
  exact SS.back (hX25 (x1, x3 + 1, G))
theorem s_Pl_make_s39 (P W : Int) (X8 : Int × Int × St → Option (Int × St)) (hX8 : ∀ s, So (MPl_make P W) 8 [(0, aR 220), (1, aI (s.1)), (2, aI (s.2.1))] [] s.2.2 (X8 s)) (x2 : Int) (X25 : Int × Int × St → Option (Int × St)) (hX25 : ∀ s, So (MPl_make P W) 25 [(0, aR 220), (1, aI (s.1)), (2, aI x2), (3, aI (s.2.1))] [] s.2.2 (X25 s)) (x3 : Int) (X39 : Int × Int × St → Option (Int × St)) (hX39 : ∀ s, So (MPl_make P W) 39 [(0, aR 220), (1, aI (s.1)), (2, aI x2), (3, aI x3), (4, aI (s.2.1))] [] s.2.2 (X39 s)) (x1 : Int) (x4 : Int) (G : St) : SS (MPl_make P W) (lk X39 (lk X25 (lk X8 some))) 39 [(0, aR 220), (1, aI x1), (2, aI x2), (3, aI x3), (4, aI x4)] [] G (Pl_make_s39 P W x2 x3 x1 x4 G) := by
  refine r_iload 41 4 dX13_make_39 rfl rfl ?_
  refine r_aload_n 42 0 dX13_make_41 rfl rfl rfl ?_
  refine r_get 45 (aR 180) dX13_make_42 fkX13_39 (fun _ => dsC_220 P W _) nn220 rfl rfl ?_
  refine r_get 48 (aR 183) dX13_make_45 fkX13_60 (fun _ => dsC_180 P W _) nn180 rfl rfl ?_
  refine r_iload_n 49 3 dX13_make_48 rfl rfl rfl ?_
  refine r_iald 50 dX13_make_49 (fun _ _ _ => dsC_183 P W _) (fun _ _ => nn183) rfl ?_
  refine r_icmp_ge 93 53 dX13_make_50 rfl rfl ?_ ?_
  · refine SS.ex ?_
    refine r_to [0, 1, 2, 3] [(0, aR 220), (1, aI x1), (2, aI x2), (3, aI x3)] rfl ?_
    exact s_Pl_make_b93 P W X8 hX8 x2 X25 hX25 x1 x3 G
  · refine r_aload_n 54 0 dX13_make_53 rfl rfl rfl ?_
    refine r_get 57 (aR 180) dX13_make_54 fkX13_39 (fun _ => dsC_220 P W _) nn220 rfl rfl ?_
    refine r_get 60 (aR 184) dX13_make_57 fkX13_63 (fun _ => dsC_180 P W _) nn180 rfl rfl ?_
    refine r_iload_n 61 3 dX13_make_60 rfl rfl rfl ?_
    refine r_iald 62 dX13_make_61 (fun _ _ _ => dsC_184 P W _) (fun _ _ => nn184) rfl ?_
    refine r_iload_n 63 2 dX13_make_62 rfl rfl rfl ?_
    refine r_icmp_ne 93 66 dX13_make_63 rfl rfl ?_ ?_
    · refine SS.ex ?_
      refine r_to [0, 1, 2, 3] [(0, aR 220), (1, aI x1), (2, aI x2), (3, aI x3)] rfl ?_
      exact s_Pl_make_b93 P W X8 hX8 x2 X25 hX25 x1 x3 G
    · refine r_aload_n 67 0 dX13_make_66 rfl rfl rfl ?_
      refine r_get 70 (aR 227) dX13_make_67 fkX13_43 (fun _ => dsC_220 P W _) nn220 rfl rfl ?_
      refine r_iload_n 71 1 dX13_make_70 rfl rfl rfl ?_
      refine r_aload_n 72 0 dX13_make_71 rfl rfl rfl ?_
      refine r_get 75 (aR 180) dX13_make_72 fkX13_39 (fun _ => dsC_220 P W _) nn220 rfl rfl ?_
      refine r_get 78 (aR 182) dX13_make_75 fkX13_66 (fun _ => dsC_180 P W _) nn180 rfl rfl ?_
      refine r_iload_n 79 3 dX13_make_78 rfl rfl rfl ?_
      refine r_iald 80 dX13_make_79 (fun _ _ _ => dsC_182 P W _) (fun _ _ => nn182) rfl ?_
      refine r_iload 82 4 dX13_make_80 rfl rfl ?_
      refine r_iadd 83 dX13_make_82 rfl ?_
      refine r_iast 84 dX13_make_83 (fun _ _ _ => dsC_227 P W _) (fun _ _ => nn227) rfl ?_
      refine ss_tk (fun G8 => ?_)
      refine r_iinc 87 [(1, aI (x1 + 1)), (0, aR 220), (2, aI x2), (3, aI x3), (4, aI x4)] 1 dX13_make_84 rfl rfl rfl rfl ?_
      refine r_iinc 90 [(4, aI (x4 + 1)), (1, aI (x1 + 1)), (0, aR 220), (2, aI x2), (3, aI x3)] 4 dX13_make_87 rfl rfl rfl rfl ?_
      refine r_goto 39 dX13_make_90 rfl ?_
      refine r_to [2, 1, 3, 4, 0] [(0, aR 220), (1, aI (x1 + 1)), (2, aI x2), (3, aI x3), (4, aI (x4 + 1))] rfl ?_
      exact SS.back (hX39 (x1 + 1, x4 + 1, G8))
theorem sl_Pl_make_39 (P W : Int) (X8 : Int × Int × St → Option (Int × St)) (hX8 : ∀ s, So (MPl_make P W) 8 [(0, aR 220), (1, aI (s.1)), (2, aI (s.2.1))] [] s.2.2 (X8 s)) (x2 : Int) (X25 : Int × Int × St → Option (Int × St)) (hX25 : ∀ s, So (MPl_make P W) 25 [(0, aR 220), (1, aI (s.1)), (2, aI x2), (3, aI (s.2.1))] [] s.2.2 (X25 s)) (x3 : Int) (x1 : Int) (x4 : Int) (G : St) : SS (MPl_make P W) (lk X25 (lk X8 some)) 39 [(0, aR 220), (1, aI x1), (2, aI x2), (3, aI x3), (4, aI x4)] [] G (Pl_make_l39 P W x2 x3 x1 x4 G) := by
  exact SS.loop (σ := Int × Int × St) (fun s => [(0, aR 220), (1, aI (s.1)), (2, aI x2), (3, aI x3), (4, aI (s.2.1))]) (fun s => s.2.2) (fun s => Pl_make_s39 P W x2 x3 s.1 s.2.1 s.2.2) (fun X39 hX39 s => s_Pl_make_s39 P W X8 hX8 x2 X25 hX25 x3  X39 hX39 s.1 s.2.1 s.2.2) (x1, x4, G)
theorem s_Pl_make_s25 (P W : Int) (X8 : Int × Int × St → Option (Int × St)) (hX8 : ∀ s, So (MPl_make P W) 8 [(0, aR 220), (1, aI (s.1)), (2, aI (s.2.1))] [] s.2.2 (X8 s)) (x2 : Int) (X25 : Int × Int × St → Option (Int × St)) (hX25 : ∀ s, So (MPl_make P W) 25 [(0, aR 220), (1, aI (s.1)), (2, aI x2), (3, aI (s.2.1))] [] s.2.2 (X25 s)) (x1 : Int) (x3 : Int) (G : St) : SS (MPl_make P W) (lk X25 (lk X8 some)) 25 [(0, aR 220), (1, aI x1), (2, aI x2), (3, aI x3)] [] G (Pl_make_s25 P W x2 x1 x3 G) := by
  refine r_iload_n 26 3 dX13_make_25 rfl rfl rfl ?_
  refine r_aload_n 27 0 dX13_make_26 rfl rfl rfl ?_
  refine r_get 30 (aR 180) dX13_make_27 fkX13_39 (fun _ => dsC_220 P W _) nn220 rfl rfl ?_
  refine r_get 33 (aI (G 180 13)) dX13_make_30 fkX13_55 (fun _ => dsC_180 P W _) nn180 rfl rfl ?_
  refine r_icmp_ge 99 36 dX13_make_33 rfl rfl ?_ ?_
  · refine SS.ex ?_
    refine r_iinc 102 [(2, aI (x2 + 1)), (0, aR 220), (1, aI x1), (3, aI x3)] 2 dX13_make_99 rfl rfl rfl rfl ?_
    refine r_goto 8 dX13_make_102 rfl ?_
    refine r_to [1, 2, 0] [(0, aR 220), (1, aI x1), (2, aI (x2 + 1))] rfl ?_
    exact SS.back (hX8 (x1, x2 + 1, G))
  · refine r_iconst 37 0 dX13_make_36 rfl rfl ?_
    refine r_istore 39 [(4, aI 0), (0, aR 220), (1, aI x1), (2, aI x2), (3, aI x3)] dX13_make_37 rfl rfl rfl ?_
    refine r_to [1, 2, 3, 4, 0] [(0, aR 220), (1, aI x1), (2, aI x2), (3, aI x3), (4, aI 0)] rfl ?_
    exact sl_Pl_make_39 P W X8 hX8 x2 X25 hX25 x3 x1 0 G
theorem sl_Pl_make_25 (P W : Int) (X8 : Int × Int × St → Option (Int × St)) (hX8 : ∀ s, So (MPl_make P W) 8 [(0, aR 220), (1, aI (s.1)), (2, aI (s.2.1))] [] s.2.2 (X8 s)) (x2 : Int) (x1 : Int) (x3 : Int) (G : St) : SS (MPl_make P W) (lk X8 some) 25 [(0, aR 220), (1, aI x1), (2, aI x2), (3, aI x3)] [] G (Pl_make_l25 P W x2 x1 x3 G) := by
  exact SS.loop (σ := Int × Int × St) (fun s => [(0, aR 220), (1, aI (s.1)), (2, aI x2), (3, aI (s.2.1))]) (fun s => s.2.2) (fun s => Pl_make_s25 P W x2 s.1 s.2.1 s.2.2) (fun X25 hX25 s => s_Pl_make_s25 P W X8 hX8 x2  X25 hX25 s.1 s.2.1 s.2.2) (x1, x3, G)
theorem s_Pl_make_s8 (P W : Int) (X8 : Int × Int × St → Option (Int × St)) (hX8 : ∀ s, So (MPl_make P W) 8 [(0, aR 220), (1, aI (s.1)), (2, aI (s.2.1))] [] s.2.2 (X8 s)) (x1 : Int) (x2 : Int) (G : St) : SS (MPl_make P W) (lk X8 some) 8 [(0, aR 220), (1, aI x1), (2, aI x2)] [] G (Pl_make_s8 P W x1 x2 G) := by
  refine r_iload_n 9 2 dX13_make_8 rfl rfl rfl ?_
  refine r_aload_n 10 0 dX13_make_9 rfl rfl rfl ?_
  refine r_get 13 (aI P) dX13_make_10 fkX13_31 (fun _ => dsC_220 P W _) nn220 rfl rfl ?_
  refine r_icmp_ge 105 16 dX13_make_13 rfl rfl ?_ ?_
  · refine SS.ex ?_
    refine r_aload_n 106 0 dX13_make_105 rfl rfl rfl ?_
    refine r_get 109 (aR 228) dX13_make_106 fkX13_46 (fun _ => dsC_220 P W _) nn220 rfl rfl ?_
    refine r_aload_n 110 0 dX13_make_109 rfl rfl rfl ?_
    refine r_get 113 (aI P) dX13_make_110 fkX13_31 (fun _ => dsC_220 P W _) nn220 rfl rfl ?_
    refine r_iload_n 114 1 dX13_make_113 rfl rfl rfl ?_
    refine r_iast 115 dX13_make_114 (fun _ _ _ => dsC_228 P W _) (fun _ _ => nn228) rfl ?_
    refine ss_tk (fun G3 => ?_)
    refine r_aload_n 116 0 dX13_make_115 rfl rfl rfl ?_
    refine r_iconst 117 0 dX13_make_116 rfl rfl ?_
    refine r_putI 120 dX13_make_117 fkX13_69 (fun _ => dsC_220 P W _) nn220 rfl rfl ?_
    refine ss_tk (fun G4 => ?_)
    refine r_iconst 121 0 dX13_make_120 rfl rfl ?_
    refine r_istore_n 122 [(2, aI 0), (0, aR 220), (1, aI x1)] dX13_make_121 rfl rfl rfl rfl ?_
    refine r_to [1, 0] [(0, aR 220), (2, aI 0)] rfl ?_
    exact sl_Pl_make_122 P W 0 G4
  · refine r_aload_n 17 0 dX13_make_16 rfl rfl rfl ?_
    refine r_get 20 (aR 228) dX13_make_17 fkX13_46 (fun _ => dsC_220 P W _) nn220 rfl rfl ?_
    refine r_iload_n 21 2 dX13_make_20 rfl rfl rfl ?_
    refine r_iload_n 22 1 dX13_make_21 rfl rfl rfl ?_
    refine r_iast 23 dX13_make_22 (fun _ _ _ => dsC_228 P W _) (fun _ _ => nn228) rfl ?_
    refine ss_tk (fun G7 => ?_)
    refine r_iconst 24 0 dX13_make_23 rfl rfl ?_
    refine r_istore_n 25 [(3, aI 0), (0, aR 220), (1, aI x1), (2, aI x2)] dX13_make_24 rfl rfl rfl rfl ?_
    refine r_to [1, 2, 3, 0] [(0, aR 220), (1, aI x1), (2, aI x2), (3, aI 0)] rfl ?_
    exact sl_Pl_make_25 P W X8 hX8 x2 x1 0 G7
theorem sl_Pl_make_8 (P W : Int) (x1 : Int) (x2 : Int) (G : St) : SS (MPl_make P W) some 8 [(0, aR 220), (1, aI x1), (2, aI x2)] [] G (Pl_make_l8 P W x1 x2 G) := by
  exact SS.loop (σ := Int × Int × St) (fun s => [(0, aR 220), (1, aI (s.1)), (2, aI (s.2.1))]) (fun s => s.2.2) (fun s => Pl_make_s8 P W s.1 s.2.1 s.2.2) (fun X8 hX8 s => s_Pl_make_s8 P W   X8 hX8 s.1 s.2.1 s.2.2) (x1, x2, G)
theorem s_Pl_make (P W : Int) (G : St) : SS (MPl_make P W) some 0 [(0, aR 220)] [] G (Pl_make P W G) := by
  refine r_aload_n 1 0 dX13_make_0 rfl rfl rfl ?_
  refine r_callvV 4 (Mc := MPl_sort P W) (o := 220) (as := []) (st := []) dX13_make_1 rfl (c_Pl_sort P W G) lkX13_52 (cmPl_sort P W) rfl rfl rfl (fun _ => dsC_220 P W _) nn220 rfl (Nat.le_of_ble_eq_true rfl) (Nat.le_of_ble_eq_true rfl) (fun _ => rfl) rfl (fun z1 G2 => ?_)
  refine r_iconst 5 0 dX13_make_4 rfl rfl ?_
  refine r_istore_n 6 [(1, aI 0), (0, aR 220)] dX13_make_5 rfl rfl rfl rfl ?_
  refine r_iconst 7 0 dX13_make_6 rfl rfl ?_
  refine r_istore_n 8 [(2, aI 0), (1, aI 0), (0, aR 220)] dX13_make_7 rfl rfl rfl rfl ?_
  refine r_to [2, 1, 0] [(0, aR 220), (1, aI 0), (2, aI 0)] rfl ?_
  exact sl_Pl_make_8 P W 0 0 G2
theorem c_Pl_make (P W : Int) (G : St) : MG (MPl_make P W) [aR 220] G (Pl_make P W G) := MG.of plX13 (Nat.le_of_ble_eq_true rfl) (s_Pl_make P W G)
theorem s_Cd_add (P W : Int) (x1 : Int) (x2 : Int) (x3 : Int) (x4 : Int) (G : St) : SS (MCd_add P W) some 0 [(0, aR 110), (1, aR x1), (2, aI x2), (3, aI x3), (4, aI x4)] [] G (Cd_add x1 x2 x3 x4 G) := by
  refine r_aload_n 1 0 dX2_add_0 rfl rfl rfl ?_
  refine r_get 4 (aR 111) dX2_add_1 fkX2_11 (fun _ => dsC_110 P W _) nn110 rfl rfl ?_
  refine r_aload_n 5 0 dX2_add_4 rfl rfl rfl ?_
  refine r_get 8 (aI (G 110 4)) dX2_add_5 fkX2_27 (fun _ => dsC_110 P W _) nn110 rfl rfl ?_
  refine r_aload_n 9 1 dX2_add_8 rfl rfl rfl ?_
  refine r_aast5 10 dX2_add_9 (fun _ _ _ => dsC_111 P W _) (fun _ _ => nn111) rfl ?_
  refine ss_tk (fun G1 => ?_)
  refine r_aload_n 11 0 dX2_add_10 rfl rfl rfl ?_
  refine r_get 14 (aR 112) dX2_add_11 fkX2_17 (fun _ => dsC_110 P W _) nn110 rfl rfl ?_
  refine r_aload_n 15 0 dX2_add_14 rfl rfl rfl ?_
  refine r_get 18 (aI (G1 110 4)) dX2_add_15 fkX2_27 (fun _ => dsC_110 P W _) nn110 rfl rfl ?_
  refine r_iload_n 19 2 dX2_add_18 rfl rfl rfl ?_
  refine r_iast 20 dX2_add_19 (fun _ _ _ => dsC_112 P W _) (fun _ _ => nn112) rfl ?_
  refine ss_tk (fun G2 => ?_)
  refine r_aload_n 21 0 dX2_add_20 rfl rfl rfl ?_
  refine r_get 24 (aR 113) dX2_add_21 fkX2_21 (fun _ => dsC_110 P W _) nn110 rfl rfl ?_
  refine r_aload_n 25 0 dX2_add_24 rfl rfl rfl ?_
  refine r_get 28 (aI (G2 110 4)) dX2_add_25 fkX2_27 (fun _ => dsC_110 P W _) nn110 rfl rfl ?_
  refine r_iload_n 29 3 dX2_add_28 rfl rfl rfl ?_
  refine r_iast 30 dX2_add_29 (fun _ _ _ => dsC_113 P W _) (fun _ _ => nn113) rfl ?_
  refine ss_tk (fun G3 => ?_)
  refine r_aload_n 31 0 dX2_add_30 rfl rfl rfl ?_
  refine r_get 34 (aR 114) dX2_add_31 fkX2_24 (fun _ => dsC_110 P W _) nn110 rfl rfl ?_
  refine r_aload_n 35 0 dX2_add_34 rfl rfl rfl ?_
  refine r_get 38 (aI (G3 110 4)) dX2_add_35 fkX2_27 (fun _ => dsC_110 P W _) nn110 rfl rfl ?_
  refine r_iload 40 4 dX2_add_38 rfl rfl ?_
  refine r_iast 41 dX2_add_40 (fun _ _ _ => dsC_114 P W _) (fun _ _ => nn114) rfl ?_
  refine ss_tk (fun G4 => ?_)
  refine r_aload_n 42 0 dX2_add_41 rfl rfl rfl ?_
  refine r_dup 43 dX2_add_42 rfl rfl ?_
  refine r_get 46 (aI (G4 110 4)) dX2_add_43 fkX2_27 (fun _ => dsC_110 P W _) nn110 rfl rfl ?_
  refine r_iconst 47 1 dX2_add_46 rfl rfl ?_
  refine r_iadd 48 dX2_add_47 rfl ?_
  refine r_putI 51 dX2_add_48 fkX2_27 (fun _ => dsC_110 P W _) nn110 rfl rfl ?_
  refine ss_tk (fun G5 => ?_)
  refine r_aload_n 52 0 dX2_add_51 rfl rfl rfl ?_
  refine r_get 55 (aI (G5 110 4)) dX2_add_52 fkX2_27 (fun _ => dsC_110 P W _) nn110 rfl rfl ?_
  refine r_iconst 56 1 dX2_add_55 rfl rfl ?_
  refine r_isub 57 dX2_add_56 rfl ?_
  exact r_ireturn dX2_add_57 rfl
theorem c_Cd_add (P W : Int) (x1 : Int) (x2 : Int) (x3 : Int) (x4 : Int) (G : St) : MG (MCd_add P W) [aR 110, aR x1, aI x2, aI x3, aI x4] G (Cd_add x1 x2 x3 x4 G) := MG.of plX2 (Nat.le_of_ble_eq_true rfl) (s_Cd_add P W x1 x2 x3 x4 G)
theorem s_Rd_enter_b18 (P W : Int) (G : St) : SS (MRd_enter P W) some 18 [(0, aR 150)] [] G (Rd_enter_b18 G) := by
  refine r_aload_n 19 0 dX8_enter_18 rfl rfl rfl ?_
  refine r_dup 20 dX8_enter_19 rfl rfl ?_
  refine r_get 23 (aI (G 150 3)) dX8_enter_20 fkX8_130 (fun _ => dsC_150 P W _) nn150 rfl rfl ?_
  refine r_iconst 24 1 dX8_enter_23 rfl rfl ?_
  refine r_iadd 25 dX8_enter_24 rfl ?_
  refine r_putI 28 dX8_enter_25 fkX8_130 (fun _ => dsC_150 P W _) nn150 rfl rfl ?_
  refine ss_tk (fun G1 => ?_)
  exact r_return dX8_enter_28 rfl
theorem s_Rd_enter (P W : Int) (x1 : Int) (G : St) : SS (MRd_enter P W) some 0 [(0, aR 150), (1, aI x1)] [] G (Rd_enter x1 G) := by
  refine r_aload_n 1 0 dX8_enter_0 rfl rfl rfl ?_
  refine r_get 4 (aI (G 150 3)) dX8_enter_1 fkX8_130 (fun _ => dsC_150 P W _) nn150 rfl rfl ?_
  refine r_bipush 6 30 dX8_enter_4 rfl rfl ?_
  refine r_icmp_ne 18 9 dX8_enter_6 rfl rfl ?_ ?_
  · refine r_to [0] [(0, aR 150)] rfl ?_
    exact s_Rd_enter_b18 P W G
  · refine r_aload_n 10 0 dX8_enter_9 rfl rfl rfl ?_
    refine r_get 13 (aR 130) dX8_enter_10 fkX8_27 (fun _ => dsC_150 P W _) nn150 rfl rfl ?_
    refine r_iconst 14 3 dX8_enter_13 rfl rfl ?_
    refine r_iload_n 15 1 dX8_enter_14 rfl rfl rfl ?_
    refine r_callvV 18 (Mc := MFt_set P W) (o := 130) (as := [aI 3, aI x1]) (st := []) dX8_enter_15 rfl (c_Ft_set P W 3 x1 G) lkX8_37 (cmFt_set P W) rfl rfl rfl (fun _ => dsC_130 P W _) nn130 rfl (Nat.le_of_ble_eq_true rfl) (Nat.le_of_ble_eq_true rfl) (fun _ => rfl) rfl (fun z2 G3 => ?_)
    refine r_to [0] [(0, aR 150)] rfl ?_
    exact s_Rd_enter_b18 P W G3
theorem c_Rd_enter (P W : Int) (x1 : Int) (G : St) : MG (MRd_enter P W) [aR 150, aI x1] G (Rd_enter x1 G) := MG.of plX8 (Nat.le_of_ble_eq_true rfl) (s_Rd_enter P W x1 G)
theorem s_Rd_look (P W : Int) (x1 : Int) (G : St) : SS (MRd_look P W) some 0 [(0, aR 150), (1, aI x1)] [] G (Rd_look x1 G) := by
  refine r_aload_n 1 0 dX8_look_0 rfl rfl rfl ?_
  refine r_get 4 (aI (G 150 2)) dX8_look_1 fkX8_31 (fun _ => dsC_150 P W _) nn150 rfl rfl ?_
  refine r_iload_n 5 1 dX8_look_4 rfl rfl rfl ?_
  refine r_iadd 6 dX8_look_5 rfl ?_
  refine r_aload_n 7 0 dX8_look_6 rfl rfl rfl ?_
  refine r_get 10 (aI (G 150 1)) dX8_look_7 fkX8_34 (fun _ => dsC_150 P W _) nn150 rfl rfl ?_
  refine r_icmp_ge 27 13 dX8_look_10 rfl rfl ?_ ?_
  · refine r_iconst 28 (-1) dX8_look_27 rfl rfl ?_
    exact r_ireturn dX8_look_28 rfl
  · refine r_aload_n 14 0 dX8_look_13 rfl rfl rfl ?_
    refine r_get 17 (aR 151) dX8_look_14 fkX8_9 (fun _ => dsC_150 P W _) nn150 rfl rfl ?_
    refine r_aload_n 18 0 dX8_look_17 rfl rfl rfl ?_
    refine r_get 21 (aI (G 150 2)) dX8_look_18 fkX8_31 (fun _ => dsC_150 P W _) nn150 rfl rfl ?_
    refine r_iload_n 22 1 dX8_look_21 rfl rfl rfl ?_
    refine r_iadd 23 dX8_look_22 rfl ?_
    refine r_bald 24 dX8_look_23 (fun _ _ _ => dsC_151 P W _) (fun _ _ => nn151) rfl ?_
    refine r_goto 28 dX8_look_24 rfl ?_
    exact r_ireturn dX8_look_28 rfl
theorem c_Rd_look (P W : Int) (x1 : Int) (G : St) : MG (MRd_look P W) [aR 150, aI x1] G (Rd_look x1 G) := MG.of plX8 (Nat.le_of_ble_eq_true rfl) (s_Rd_look P W x1 G)
theorem s_Rd_skip_b110 (P W : Int) (X2 : Int × St → Option (Int × St)) (hX2 : ∀ s, So (MRd_skip P W) 2 [(0, aR 150), (1, aI (s.1))] [] s.2 (X2 s)) (s0 : Int) (G : St) : SS (MRd_skip P W) (lk X2 some) 110 [(0, aR 150)] [aI s0] G (Rd_skip_b110 s0 G) := by
  refine r_istore_n 111 [(1, aI s0), (0, aR 150)] dX8_skip_110 rfl rfl rfl rfl ?_
  refine r_aload_n 112 1 dX8_skip_111 rfl rfl rfl ?_
  refine r_dup 113 dX8_skip_112 rfl rfl ?_
  refine r_get 116 (aI (G 150 2)) dX8_skip_113 fkX8_31 (fun _ => dsC_150 P W _) nn150 rfl rfl ?_
  refine r_iconst 117 1 dX8_skip_116 rfl rfl ?_
  refine r_iadd 118 dX8_skip_117 rfl ?_
  refine r_putI 121 dX8_skip_118 fkX8_31 (fun _ => dsC_150 P W _) nn150 rfl rfl ?_
  refine ss_tk (fun G1 => ?_)
  refine r_goto 2 dX8_skip_121 rfl ?_
  refine r_to [1, 0] [(0, aR 150), (1, aI s0)] rfl ?_
  exact SS.back (hX2 (s0, G1))
theorem s_Rd_skip_b73 (P W : Int) (X2 : Int × St → Option (Int × St)) (hX2 : ∀ s, So (MRd_skip P W) 2 [(0, aR 150), (1, aI (s.1))] [] s.2 (X2 s)) (x1 : Int) (G : St) : SS (MRd_skip P W) (lk X2 some) 73 [(0, aR 150), (1, aI x1)] [] G (Rd_skip_b73 x1 G) := by
  refine r_aload_n 74 0 dX8_skip_73 rfl rfl rfl ?_
  refine r_get 77 (aR 151) dX8_skip_74 fkX8_9 (fun _ => dsC_150 P W _) nn150 rfl rfl ?_
  refine r_aload_n 78 0 dX8_skip_77 rfl rfl rfl ?_
  refine r_get 81 (aI (G 150 2)) dX8_skip_78 fkX8_31 (fun _ => dsC_150 P W _) nn150 rfl rfl ?_
  refine r_bald 82 dX8_skip_81 (fun _ _ _ => dsC_151 P W _) (fun _ _ => nn151) rfl ?_
  refine r_bipush 84 35 dX8_skip_82 rfl rfl ?_
  refine r_icmp_eq 105 87 dX8_skip_84 rfl rfl ?_ ?_
  · refine r_iconst 106 1 dX8_skip_105 rfl rfl ?_
    refine r_goto 110 dX8_skip_106 rfl ?_
    refine r_to [0] [(0, aR 150)] rfl ?_
    exact s_Rd_skip_b110 P W X2 hX2 1 G
  · refine r_iload_n 88 1 dX8_skip_87 rfl rfl rfl ?_
    refine r_if_eq 109 91 dX8_skip_88 rfl rfl ?_ ?_
    · refine r_iconst 110 0 dX8_skip_109 rfl rfl ?_
      refine r_to [0] [(0, aR 150)] rfl ?_
      exact s_Rd_skip_b110 P W X2 hX2 0 G
    · refine r_aload_n 92 0 dX8_skip_91 rfl rfl rfl ?_
      refine r_get 95 (aR 151) dX8_skip_92 fkX8_9 (fun _ => dsC_150 P W _) nn150 rfl rfl ?_
      refine r_aload_n 96 0 dX8_skip_95 rfl rfl rfl ?_
      refine r_get 99 (aI (G 150 2)) dX8_skip_96 fkX8_31 (fun _ => dsC_150 P W _) nn150 rfl rfl ?_
      refine r_bald 100 dX8_skip_99 (fun _ _ _ => dsC_151 P W _) (fun _ _ => nn151) rfl ?_
      refine r_bipush 102 10 dX8_skip_100 rfl rfl ?_
      refine SS.phi (fun VV_ => Rd_skip_b110 VV_ G) ?_
      refine r_icmp_eq 109 105 dX8_skip_102 rfl rfl ?_ ?_
      · refine r_iconst 110 0 dX8_skip_109 rfl rfl ?_
        refine r_to [0] [(0, aR 150)] rfl ?_
        exact s_Rd_skip_b110 P W X2 hX2 0 G
      · refine r_iconst 106 1 dX8_skip_105 rfl rfl ?_
        refine r_goto 110 dX8_skip_106 rfl ?_
        refine r_to [0] [(0, aR 150)] rfl ?_
        exact s_Rd_skip_b110 P W X2 hX2 1 G
theorem s_Rd_skip_s2 (P W : Int) (X2 : Int × St → Option (Int × St)) (hX2 : ∀ s, So (MRd_skip P W) 2 [(0, aR 150), (1, aI (s.1))] [] s.2 (X2 s)) (x1 : Int) (G : St) : SS (MRd_skip P W) (lk X2 some) 2 [(0, aR 150), (1, aI x1)] [] G (Rd_skip_s2 x1 G) := by
  refine r_aload_n 3 0 dX8_skip_2 rfl rfl rfl ?_
  refine r_get 6 (aI (G 150 2)) dX8_skip_3 fkX8_31 (fun _ => dsC_150 P W _) nn150 rfl rfl ?_
  refine r_aload_n 7 0 dX8_skip_6 rfl rfl rfl ?_
  refine r_get 10 (aI (G 150 1)) dX8_skip_7 fkX8_34 (fun _ => dsC_150 P W _) nn150 rfl rfl ?_
  refine r_icmp_ge 124 13 dX8_skip_10 rfl rfl ?_ ?_
  · refine SS.ex ?_
    exact r_return dX8_skip_124 rfl
  · refine r_iload_n 14 1 dX8_skip_13 rfl rfl rfl ?_
    refine r_if_ne 73 17 dX8_skip_14 rfl rfl ?_ ?_
    · exact s_Rd_skip_b73 P W X2 hX2 x1 G
    · refine r_aload_n 18 0 dX8_skip_17 rfl rfl rfl ?_
      refine r_get 21 (aR 151) dX8_skip_18 fkX8_9 (fun _ => dsC_150 P W _) nn150 rfl rfl ?_
      refine r_aload_n 22 0 dX8_skip_21 rfl rfl rfl ?_
      refine r_get 25 (aI (G 150 2)) dX8_skip_22 fkX8_31 (fun _ => dsC_150 P W _) nn150 rfl rfl ?_
      refine r_bald 26 dX8_skip_25 (fun _ _ _ => dsC_151 P W _) (fun _ _ => nn151) rfl ?_
      refine r_bipush 28 32 dX8_skip_26 rfl rfl ?_
      refine r_icmp_eq 73 31 dX8_skip_28 rfl rfl ?_ ?_
      · exact s_Rd_skip_b73 P W X2 hX2 x1 G
      · refine r_aload_n 32 0 dX8_skip_31 rfl rfl rfl ?_
        refine r_get 35 (aR 151) dX8_skip_32 fkX8_9 (fun _ => dsC_150 P W _) nn150 rfl rfl ?_
        refine r_aload_n 36 0 dX8_skip_35 rfl rfl rfl ?_
        refine r_get 39 (aI (G 150 2)) dX8_skip_36 fkX8_31 (fun _ => dsC_150 P W _) nn150 rfl rfl ?_
        refine r_bald 40 dX8_skip_39 (fun _ _ _ => dsC_151 P W _) (fun _ _ => nn151) rfl ?_
        refine r_bipush 42 9 dX8_skip_40 rfl rfl ?_
        refine r_icmp_eq 73 45 dX8_skip_42 rfl rfl ?_ ?_
        · exact s_Rd_skip_b73 P W X2 hX2 x1 G
        · refine r_aload_n 46 0 dX8_skip_45 rfl rfl rfl ?_
          refine r_get 49 (aR 151) dX8_skip_46 fkX8_9 (fun _ => dsC_150 P W _) nn150 rfl rfl ?_
          refine r_aload_n 50 0 dX8_skip_49 rfl rfl rfl ?_
          refine r_get 53 (aI (G 150 2)) dX8_skip_50 fkX8_31 (fun _ => dsC_150 P W _) nn150 rfl rfl ?_
          refine r_bald 54 dX8_skip_53 (fun _ _ _ => dsC_151 P W _) (fun _ _ => nn151) rfl ?_
          refine r_bipush 56 10 dX8_skip_54 rfl rfl ?_
          refine r_icmp_eq 73 59 dX8_skip_56 rfl rfl ?_ ?_
          · exact s_Rd_skip_b73 P W X2 hX2 x1 G
          · refine r_aload_n 60 0 dX8_skip_59 rfl rfl rfl ?_
            refine r_get 63 (aR 151) dX8_skip_60 fkX8_9 (fun _ => dsC_150 P W _) nn150 rfl rfl ?_
            refine r_aload_n 64 0 dX8_skip_63 rfl rfl rfl ?_
            refine r_get 67 (aI (G 150 2)) dX8_skip_64 fkX8_31 (fun _ => dsC_150 P W _) nn150 rfl rfl ?_
            refine r_bald 68 dX8_skip_67 (fun _ _ _ => dsC_151 P W _) (fun _ _ => nn151) rfl ?_
            refine r_bipush 70 35 dX8_skip_68 rfl rfl ?_
            refine r_icmp_ne 124 73 dX8_skip_70 rfl rfl ?_ ?_
            · refine SS.ex ?_
              exact r_return dX8_skip_124 rfl
            · exact s_Rd_skip_b73 P W X2 hX2 x1 G
theorem sl_Rd_skip_2 (P W : Int) (x1 : Int) (G : St) : SS (MRd_skip P W) some 2 [(0, aR 150), (1, aI x1)] [] G (Rd_skip_l2 x1 G) := by
  exact SS.loop (σ := Int × St) (fun s => [(0, aR 150), (1, aI (s.1))]) (fun s => s.2) (fun s => Rd_skip_s2 s.1 s.2) (fun X2 hX2 s => s_Rd_skip_s2 P W   X2 hX2 s.1 s.2) (x1, G)
theorem s_Rd_skip (P W : Int) (G : St) : SS (MRd_skip P W) some 0 [(0, aR 150)] [] G (Rd_skip G) := by
  refine r_iconst 1 0 dX8_skip_0 rfl rfl ?_
  refine r_istore_n 2 [(1, aI 0), (0, aR 150)] dX8_skip_1 rfl rfl rfl rfl ?_
  refine r_to [1, 0] [(0, aR 150), (1, aI 0)] rfl ?_
  exact sl_Rd_skip_2 P W 0 G
theorem c_Rd_skip (P W : Int) (G : St) : MG (MRd_skip P W) [aR 150] G (Rd_skip G) := MG.of plX8 (Nat.le_of_ble_eq_true rfl) (s_Rd_skip P W G)
