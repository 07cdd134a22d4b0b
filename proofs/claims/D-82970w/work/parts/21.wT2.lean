set_option maxRecDepth 100000
theorem s_Tw_outputItem (P W : Int) (x1 : Int) (G : St) : SS (MTw_outputItem P W) some 0 [(0, aR 100), (1, aI x1)] [] G (Tw_outputItem P W x1 G) := by
  refine r_aload_n 1 0 dX15_outputItem_0 rfl rfl rfl ?_
  refine r_dup 2 dX15_outputItem_1 rfl rfl ?_
  refine r_get 5 (aI (G 100 6)) dX15_outputItem_2 fkX15_326 (fun _ => dsT_100 P W _) nn100 rfl rfl ?_
  refine r_bipush 7 6 dX15_outputItem_5 rfl rfl ?_
  refine r_iadd 8 dX15_outputItem_7 rfl ?_
  refine r_putI 11 dX15_outputItem_8 fkX15_326 (fun _ => dsT_100 P W _) nn100 rfl rfl ?_
  refine ss_tk (fun G1 => ?_)
  refine r_aload_n 12 0 dX15_outputItem_11 rfl rfl rfl ?_
  refine r_bipush 14 20 dX15_outputItem_12 rfl rfl ?_
  refine r_iconst 15 0 dX15_outputItem_14 rfl rfl ?_
  refine r_iconst 16 0 dX15_outputItem_15 rfl rfl ?_
  refine r_iload_n 17 1 dX15_outputItem_16 rfl rfl rfl ?_
  refine r_callvI 20 (Mc := MTw_put P W) (o := 100) (as := [aI 20, aI 0, aI 0, aI x1]) (st := []) dX15_outputItem_17 rfl (c_Tw_put P W 20 0 0 x1 G1) lkX15_423 (cmTw_put P W) rfl rfl rfl (fun _ => dsT_100 P W _) nn100 rfl (Nat.le_of_ble_eq_true rfl) (Nat.le_of_ble_eq_true rfl) (fun _ => rfl) rfl (fun z2 G3 => ?_)
  refine r_istore_n 21 [(2, aI z2), (0, aR 100), (1, aI x1)] dX15_outputItem_20 rfl rfl rfl rfl ?_
  refine r_aload_n 22 1 dX15_outputItem_21 rfl rfl rfl ?_
  refine r_callvV 25 (Mc := MTw_expression P W) (o := 100) (as := []) (st := []) dX15_outputItem_22 rfl (c_Tw_expression P W G3) lkX15_496 (cmTw_expression P W) rfl rfl rfl (fun _ => dsT_100 P W _) nn100 rfl (Nat.le_of_ble_eq_true rfl) (Nat.le_of_ble_eq_true rfl) (fun _ => rfl) rfl (fun z4 G5 => ?_)
  refine r_aload_n 26 1 dX15_outputItem_25 rfl rfl rfl ?_
  refine r_get 29 (aI (G5 100 7)) dX15_outputItem_26 fkX15_323 (fun _ => dsT_100 P W _) nn100 rfl rfl ?_
  refine r_if_ne 58 32 dX15_outputItem_29 rfl rfl ?_ ?_
  · exact r_return dX15_outputItem_58 rfl
  · refine r_aload_n 33 1 dX15_outputItem_32 rfl rfl rfl ?_
    refine r_bipush 35 30 dX15_outputItem_33 rfl rfl ?_
    refine r_iconst 36 0 dX15_outputItem_35 rfl rfl ?_
    refine r_iconst 37 0 dX15_outputItem_36 rfl rfl ?_
    refine r_iload_n 38 2 dX15_outputItem_37 rfl rfl rfl ?_
    refine r_callvI 41 (Mc := MTw_put P W) (o := 100) (as := [aI 30, aI 0, aI 0, aI x1]) (st := []) dX15_outputItem_38 rfl (c_Tw_put P W 30 0 0 x1 G5) lkX15_423 (cmTw_put P W) rfl rfl rfl (fun _ => dsT_100 P W _) nn100 rfl (Nat.le_of_ble_eq_true rfl) (Nat.le_of_ble_eq_true rfl) (fun _ => rfl) rfl (fun z6 G7 => ?_)
    refine r_istore_n 42 [(2, aI z6), (0, aR 100), (1, aI x1)] dX15_outputItem_41 rfl rfl rfl rfl ?_
    refine r_aload_n 43 1 dX15_outputItem_42 rfl rfl rfl ?_
    refine r_bipush 45 59 dX15_outputItem_43 rfl rfl ?_
    refine r_callvV 48 (Mc := MTw_sign P W) (o := 100) (as := [aI 59]) (st := []) dX15_outputItem_45 rfl (c_Tw_sign P W 59 G7) lkX15_442 (cmTw_sign P W) rfl rfl rfl (fun _ => dsT_100 P W _) nn100 rfl (Nat.le_of_ble_eq_true rfl) (Nat.le_of_ble_eq_true rfl) (fun _ => rfl) rfl (fun z8 G9 => ?_)
    refine r_aload_n 49 1 dX15_outputItem_48 rfl rfl rfl ?_
    refine r_bipush 51 21 dX15_outputItem_49 rfl rfl ?_
    refine r_iconst 52 0 dX15_outputItem_51 rfl rfl ?_
    refine r_iconst 53 0 dX15_outputItem_52 rfl rfl ?_
    refine r_iload_n 54 2 dX15_outputItem_53 rfl rfl rfl ?_
    refine r_callvI 57 (Mc := MTw_put P W) (o := 100) (as := [aI 21, aI 0, aI 0, aI x1]) (st := []) dX15_outputItem_54 rfl (c_Tw_put P W 21 0 0 x1 G9) lkX15_423 (cmTw_put P W) rfl rfl rfl (fun _ => dsT_100 P W _) nn100 rfl (Nat.le_of_ble_eq_true rfl) (Nat.le_of_ble_eq_true rfl) (fun _ => rfl) rfl (fun z10 G11 => ?_)
    refine r_istore_n 58 [(2, aI z10), (0, aR 100), (1, aI x1)] dX15_outputItem_57 rfl rfl rfl rfl ?_
    exact r_return dX15_outputItem_58 rfl
theorem c_Tw_outputItem (P W : Int) (x1 : Int) (G : St) : MG (MTw_outputItem P W) [aR 100, aI x1] G (Tw_outputItem P W x1 G) := MG.of plX15 (Nat.le_of_ble_eq_true rfl) (s_Tw_outputItem P W x1 G)
theorem s_Tw_varStatement_b195 (P W : Int) (x1 : Int) (x2 : Int) (x5 : Int) (x6 : Int) (x7 : Int) (s0 : Int) (s1 : Int) (G : St) : SS (MTw_varStatement P W) some 195 [(0, aR 100), (1, aI x1), (2, aI x2), (5, aI x5), (6, aI x6), (7, aI x7)] [aL s0, aI s1, aR 119] G (Tw_varStatement_b195 P W x1 x2 x5 x6 x7 s0 s1 G) := by
  refine r_ldc2 198 256 dX15_varStatement_195 q2452 (by decide) rfl rfl ?_
  refine r_iload 200 5 dX15_varStatement_198 rfl rfl ?_
  refine r_i2l 201 dX15_varStatement_200 rfl ?_
  refine r_lmul 202 dX15_varStatement_201 rfl ?_
  refine r_ladd 203 dX15_varStatement_202 rfl ?_
  refine r_last 204 dX15_varStatement_203 (fun _ _ _ => dsT_119 P W _) (fun _ _ => nn119) rfl ?_
  refine ss_tk (fun G16 => ?_)
  refine r_aload_n 205 0 dX15_varStatement_204 rfl rfl rfl ?_
  refine r_get 208 (aR 117) dX15_varStatement_205 fkX15_28 (fun _ => dsT_100 P W _) nn100 rfl rfl ?_
  refine r_iload_n 209 2 dX15_varStatement_208 rfl rfl rfl ?_
  refine r_iload 211 4 dX15_varStatement_209 rfl rfl ?_
  refine r_iast 212 dX15_varStatement_211 (fun _ _ _ => dsT_117 P W _) (fun _ _ => nn117) rfl ?_
  refine ss_tk (fun G17 => ?_)
  refine r_aload_n 213 0 dX15_varStatement_212 rfl rfl rfl ?_
  refine r_get 216 (aR 134) dX15_varStatement_213 fkX15_56 (fun _ => dsT_100 P W _) nn100 rfl rfl ?_
  refine r_iload_n 217 2 dX15_varStatement_216 rfl rfl rfl ?_
  refine r_aload_n 218 0 dX15_varStatement_217 rfl rfl rfl ?_
  refine r_get 221 (aI (G17 100 30)) dX15_varStatement_218 fkX15_493 (fun _ => dsT_100 P W _) nn100 rfl rfl ?_
  refine r_iast 222 dX15_varStatement_221 (fun _ _ _ => dsT_134 P W _) (fun _ _ => nn134) rfl ?_
  refine ss_tk (fun G18 => ?_)
  refine r_aload_n 223 0 dX15_varStatement_222 rfl rfl rfl ?_
  refine r_dup 224 dX15_varStatement_223 rfl rfl ?_
  refine r_get 227 (aI (G18 100 30)) dX15_varStatement_224 fkX15_493 (fun _ => dsT_100 P W _) nn100 rfl rfl ?_
  refine r_iload 229 3 dX15_varStatement_227 rfl rfl ?_
  refine r_iadd 230 dX15_varStatement_229 rfl ?_
  refine r_putI 233 dX15_varStatement_230 fkX15_493 (fun _ => dsT_100 P W _) nn100 rfl rfl ?_
  refine ss_tk (fun G19 => ?_)
  refine r_aload_n 234 0 dX15_varStatement_233 rfl rfl rfl ?_
  refine r_bipush 236 59 dX15_varStatement_234 rfl rfl ?_
  refine r_callvV 239 (Mc := MTw_sign P W) (o := 100) (as := [aI 59]) (st := []) dX15_varStatement_236 rfl (c_Tw_sign P W 59 G19) lkX15_442 (cmTw_sign P W) rfl rfl rfl (fun _ => dsT_100 P W _) nn100 rfl (Nat.le_of_ble_eq_true rfl) (Nat.le_of_ble_eq_true rfl) (fun _ => rfl) rfl (fun z20 G21 => ?_)
  refine r_aload_n 240 0 dX15_varStatement_239 rfl rfl rfl ?_
  refine r_bipush 242 21 dX15_varStatement_240 rfl rfl ?_
  refine r_iconst 243 0 dX15_varStatement_242 rfl rfl ?_
  refine r_iconst 244 0 dX15_varStatement_243 rfl rfl ?_
  refine r_iload_n 245 1 dX15_varStatement_244 rfl rfl rfl ?_
  refine r_callvI 248 (Mc := MTw_put P W) (o := 100) (as := [aI 21, aI 0, aI 0, aI x1]) (st := []) dX15_varStatement_245 rfl (c_Tw_put P W 21 0 0 x1 G21) lkX15_423 (cmTw_put P W) rfl rfl rfl (fun _ => dsT_100 P W _) nn100 rfl (Nat.le_of_ble_eq_true rfl) (Nat.le_of_ble_eq_true rfl) (fun _ => rfl) rfl (fun z22 G23 => ?_)
  refine r_istore_n 249 [(2, aI z22), (0, aR 100), (1, aI x1), (5, aI x5), (6, aI x6), (7, aI x7)] dX15_varStatement_248 rfl rfl rfl rfl ?_
  exact r_return dX15_varStatement_249 rfl
theorem s_Tw_varStatement_b158 (P W : Int) (x1 : Int) (x3 : Int) (x4 : Int) (x5 : Int) (x6 : Int) (x7 : Int) (x8 : Int) (G : St) : SS (MTw_varStatement P W) some 158 [(0, aR 100), (1, aI x1), (3, aI x3), (4, aI x4), (5, aI x5), (6, aI x6), (7, aI x7), (8, aI x8)] [] G (Tw_varStatement_b158 P W x1 x3 x4 x5 x6 x7 x8 G) := by
  refine r_aload_n 159 0 dX15_varStatement_158 rfl rfl rfl ?_
  refine r_get 162 (aI (G 100 7)) dX15_varStatement_159 fkX15_323 (fun _ => dsT_100 P W _) nn100 rfl rfl ?_
  refine r_if_le 166 165 dX15_varStatement_162 rfl rfl ?_ ?_
  · refine r_aload_n 167 0 dX15_varStatement_166 rfl rfl rfl ?_
    refine r_bipush 169 25 dX15_varStatement_167 rfl rfl ?_
    refine r_iload 171 3 dX15_varStatement_169 rfl rfl ?_
    refine r_iload 173 5 dX15_varStatement_171 rfl rfl ?_
    refine r_iload_n 174 2 dX15_varStatement_173 rfl rfl rfl ?_
    refine r_callvI 177 (Mc := MTw_put P W) (o := 100) (as := [aI 25, aI x4, aI x6, aI x3]) (st := []) dX15_varStatement_174 rfl (c_Tw_put P W 25 x4 x6 x3 G) lkX15_423 (cmTw_put P W) rfl rfl rfl (fun _ => dsT_100 P W _) nn100 rfl (Nat.le_of_ble_eq_true rfl) (Nat.le_of_ble_eq_true rfl) (fun _ => rfl) rfl (fun z14 G15 => ?_)
    refine r_istore_n 178 [(2, aI z14), (0, aR 100), (1, aI x1), (3, aI x3), (4, aI x4), (5, aI x5), (6, aI x6), (7, aI x7), (8, aI x8)] dX15_varStatement_177 rfl rfl rfl rfl ?_
    refine r_aload_n 179 1 dX15_varStatement_178 rfl rfl rfl ?_
    refine r_get 182 (aR 119) dX15_varStatement_179 fkX15_34 (fun _ => dsT_100 P W _) nn100 rfl rfl ?_
    refine r_iload_n 183 0 dX15_varStatement_182 rfl rfl rfl ?_
    refine r_iload 185 8 dX15_varStatement_183 rfl rfl ?_
    refine SS.phi (fun VV_ => Tw_varStatement_b195 P W x1 z14 x5 x6 x7 VV_ z14 G15) ?_
    refine r_if_eq 194 188 dX15_varStatement_185 rfl rfl ?_ ?_
    · refine r_lconst 195 0 dX15_varStatement_194 rfl rfl rfl ?_
      refine r_to [1, 2, 0, 5, 6, 7] [(0, aR 100), (1, aI x1), (2, aI z14), (5, aI x5), (6, aI x6), (7, aI x7)] rfl ?_
      exact s_Tw_varStatement_b195 P W x1 z14 x5 x6 x7 0 z14 G15
    · refine r_ldc2 191 65536 dX15_varStatement_188 q2451 (by decide) rfl rfl ?_
      refine r_goto 195 dX15_varStatement_191 rfl ?_
      refine r_to [1, 2, 0, 5, 6, 7] [(0, aR 100), (1, aI x1), (2, aI z14), (5, aI x5), (6, aI x6), (7, aI x7)] rfl ?_
      exact s_Tw_varStatement_b195 P W x1 z14 x5 x6 x7 65536 z14 G15
  · exact r_return dX15_varStatement_165 rfl
theorem s_Tw_varStatement_b82 (P W : Int) (x1 : Int) (x3 : Int) (x4 : Int) (s0 : Int) (G : St) : SS (MTw_varStatement P W) some 82 [(0, aR 100), (1, aI x1), (3, aI x3), (4, aI x4)] [aI s0] G (Tw_varStatement_b82 P W x1 x3 x4 s0 G) := by
  refine r_istore 84 [(5, aI s0), (0, aR 100), (1, aI x1), (3, aI x3), (4, aI x4)] dX15_varStatement_82 rfl rfl rfl ?_
  refine r_aload_n 85 1 dX15_varStatement_84 rfl rfl rfl ?_
  refine r_get 88 (aI (G 100 32)) dX15_varStatement_85 fkX15_470 (fun _ => dsT_100 P W _) nn100 rfl rfl ?_
  refine r_istore 90 [(6, aI (G 100 32)), (5, aI s0), (0, aR 100), (1, aI x1), (3, aI x3), (4, aI x4)] dX15_varStatement_88 rfl rfl rfl ?_
  refine r_aload_n 91 2 dX15_varStatement_90 rfl rfl rfl ?_
  refine r_get 94 (aI (G 100 31)) dX15_varStatement_91 fkX15_476 (fun _ => dsT_100 P W _) nn100 rfl rfl ?_
  refine r_istore 96 [(7, aI (G 100 31)), (6, aI (G 100 32)), (5, aI s0), (0, aR 100), (1, aI x1), (3, aI x3), (4, aI x4)] dX15_varStatement_94 rfl rfl rfl ?_
  refine r_aload_n 97 3 dX15_varStatement_96 rfl rfl rfl ?_
  refine r_get 100 (aI (G 100 30)) dX15_varStatement_97 fkX15_493 (fun _ => dsT_100 P W _) nn100 rfl rfl ?_
  refine r_iload 102 2 dX15_varStatement_100 rfl rfl ?_
  refine r_iadd 103 dX15_varStatement_102 rfl ?_
  refine r_sipush 106 256 dX15_varStatement_103 rfl rfl ?_
  refine r_icmp_le 116 109 dX15_varStatement_106 rfl rfl ?_ ?_
  · refine r_aload_n 117 3 dX15_varStatement_116 rfl rfl rfl ?_
    refine r_bipush 119 24 dX15_varStatement_117 rfl rfl ?_
    refine r_iload 121 6 dX15_varStatement_119 rfl rfl ?_
    refine r_iconst 122 0 dX15_varStatement_121 rfl rfl ?_
    refine r_iload_n 123 5 dX15_varStatement_122 rfl rfl rfl ?_
    refine r_callvI 126 (Mc := MTw_put P W) (o := 100) (as := [aI 24, aI x4, aI 0, aI x3]) (st := []) dX15_varStatement_123 rfl (c_Tw_put P W 24 x4 0 x3 G) lkX15_423 (cmTw_put P W) rfl rfl rfl (fun _ => dsT_100 P W _) nn100 rfl (Nat.le_of_ble_eq_true rfl) (Nat.le_of_ble_eq_true rfl) (fun _ => rfl) rfl (fun z8 G9 => ?_)
    refine r_istore_n 127 [(2, aI z8), (7, aI (G 100 31)), (6, aI (G 100 32)), (5, aI s0), (0, aR 100), (1, aI x1), (3, aI x3), (4, aI x4)] dX15_varStatement_126 rfl rfl rfl rfl ?_
    refine r_aload_n 128 4 dX15_varStatement_127 rfl rfl rfl ?_
    refine r_callvV 131 (Mc := MTw_gap P W) (o := 100) (as := []) (st := []) dX15_varStatement_128 rfl (c_Tw_gap P W G9) lkX15_383 (cmTw_gap P W) rfl rfl rfl (fun _ => dsT_100 P W _) nn100 rfl (Nat.le_of_ble_eq_true rfl) (Nat.le_of_ble_eq_true rfl) (fun _ => rfl) rfl (fun z10 G11 => ?_)
    refine r_aload_n 132 4 dX15_varStatement_131 rfl rfl rfl ?_
    refine r_bipush 134 61 dX15_varStatement_132 rfl rfl ?_
    refine r_callvI 137 (Mc := MTw_isSign P W) (o := 100) (as := [aI 61]) (st := []) dX15_varStatement_134 rfl (c_Tw_isSign P W 61 G11) lkX15_408 (cmTw_isSign P W) rfl rfl rfl (fun _ => dsT_100 P W _) nn100 rfl (Nat.le_of_ble_eq_true rfl) (Nat.le_of_ble_eq_true rfl) (fun _ => rfl) rfl (fun z12 G13 => ?_)
    refine r_istore 139 [(8, aI z12), (2, aI z8), (7, aI (G 100 31)), (6, aI (G 100 32)), (5, aI s0), (0, aR 100), (1, aI x1), (3, aI x3), (4, aI x4)] dX15_varStatement_137 rfl rfl rfl ?_
    refine r_iload 141 0 dX15_varStatement_139 rfl rfl ?_
    refine r_if_eq 158 144 dX15_varStatement_141 rfl rfl ?_ ?_
    · refine r_to [5, 6, 7, 8, 4, 3, 2, 0] [(0, aR 100), (1, aI x1), (3, aI x3), (4, aI x4), (5, aI s0), (6, aI (G 100 32)), (7, aI (G 100 31)), (8, aI z12)] rfl ?_
      exact s_Tw_varStatement_b158 P W x1 x3 x4 s0 (G 100 32) (G 100 31) z12 G13
    · refine r_aload_n 145 5 dX15_varStatement_144 rfl rfl rfl ?_
      refine r_dup 146 dX15_varStatement_145 rfl rfl ?_
      refine r_get 149 (aI (G13 100 6)) dX15_varStatement_146 fkX15_326 (fun _ => dsT_100 P W _) nn100 rfl rfl ?_
      refine r_iconst 150 1 dX15_varStatement_149 rfl rfl ?_
      refine r_iadd 151 dX15_varStatement_150 rfl ?_
      refine r_putI 154 dX15_varStatement_151 fkX15_326 (fun _ => dsT_100 P W _) nn100 rfl rfl ?_
      refine ss_tk (fun G24 => ?_)
      refine r_aload_n 155 5 dX15_varStatement_154 rfl rfl rfl ?_
      refine r_callvV 158 (Mc := MTw_expression P W) (o := 100) (as := []) (st := []) dX15_varStatement_155 rfl (c_Tw_expression P W G24) lkX15_496 (cmTw_expression P W) rfl rfl rfl (fun _ => dsT_100 P W _) nn100 rfl (Nat.le_of_ble_eq_true rfl) (Nat.le_of_ble_eq_true rfl) (fun _ => rfl) rfl (fun z25 G26 => ?_)
      refine r_to [5, 6, 7, 8, 4, 3, 2, 0] [(0, aR 100), (1, aI x1), (3, aI x3), (4, aI x4), (5, aI s0), (6, aI (G 100 32)), (7, aI (G 100 31)), (8, aI z12)] rfl ?_
      exact s_Tw_varStatement_b158 P W x1 x3 x4 s0 (G 100 32) (G 100 31) z12 G26
  · refine r_aload_n 110 3 dX15_varStatement_109 rfl rfl rfl ?_
    refine r_iconst 111 2 dX15_varStatement_110 rfl rfl ?_
    refine r_iload_n 112 5 dX15_varStatement_111 rfl rfl rfl ?_
    refine r_callvV 115 (Mc := MTw_fail P W) (o := 100) (as := [aI 2, aI x3]) (st := []) dX15_varStatement_112 rfl (c_Tw_fail P W 2 x3 G) lkX15_390 (cmTw_fail P W) rfl rfl rfl (fun _ => dsT_100 P W _) nn100 rfl (Nat.le_of_ble_eq_true rfl) (Nat.le_of_ble_eq_true rfl) (fun _ => rfl) rfl (fun z27 G28 => ?_)
    exact r_return dX15_varStatement_115 rfl
theorem s_Tw_varStatement_b59 (P W : Int) (x1 : Int) (x3 : Int) (x4 : Int) (G : St) : SS (MTw_varStatement P W) some 59 [(0, aR 100), (1, aI x1), (3, aI x3), (4, aI x4)] [] G (Tw_varStatement_b59 P W x1 x3 x4 G) := by
  refine r_aload_n 60 0 dX15_varStatement_59 rfl rfl rfl ?_
  refine r_get 63 (aI (G 100 7)) dX15_varStatement_60 fkX15_323 (fun _ => dsT_100 P W _) nn100 rfl rfl ?_
  refine r_if_le 67 66 dX15_varStatement_63 rfl rfl ?_ ?_
  · refine r_aload_n 68 0 dX15_varStatement_67 rfl rfl rfl ?_
    refine r_get 71 (aI (G 100 31)) dX15_varStatement_68 fkX15_476 (fun _ => dsT_100 P W _) nn100 rfl rfl ?_
    refine SS.phi (fun VV_ => Tw_varStatement_b82 P W x1 x3 x4 VV_ G) ?_
    refine r_if_ne 78 74 dX15_varStatement_71 rfl rfl ?_ ?_
    · refine r_aload_n 79 0 dX15_varStatement_78 rfl rfl rfl ?_
      refine r_get 82 (aI (G 100 31)) dX15_varStatement_79 fkX15_476 (fun _ => dsT_100 P W _) nn100 rfl rfl ?_
      exact s_Tw_varStatement_b82 P W x1 x3 x4 (G 100 31) G
    · refine r_iconst 75 1 dX15_varStatement_74 rfl rfl ?_
      refine r_goto 82 dX15_varStatement_75 rfl ?_
      exact s_Tw_varStatement_b82 P W x1 x3 x4 1 G
  · exact r_return dX15_varStatement_66 rfl
theorem s_Tw_varStatement_b48 (P W : Int) (x1 : Int) (x3 : Int) (x4 : Int) (G : St) : SS (MTw_varStatement P W) some 48 [(0, aR 100), (1, aI x1), (3, aI x3), (4, aI x4)] [] G (Tw_varStatement_b48 P W x1 x3 x4 G) := by
  refine r_aload_n 49 0 dX15_varStatement_48 rfl rfl rfl ?_
  refine r_get 52 (aI (G 100 7)) dX15_varStatement_49 fkX15_323 (fun _ => dsT_100 P W _) nn100 rfl rfl ?_
  refine r_if_ne 59 55 dX15_varStatement_52 rfl rfl ?_ ?_
  · exact s_Tw_varStatement_b59 P W x1 x3 x4 G
  · refine r_aload_n 56 0 dX15_varStatement_55 rfl rfl rfl ?_
    refine r_callvV 59 (Mc := MTw_type P W) (o := 100) (as := []) (st := []) dX15_varStatement_56 rfl (c_Tw_type P W G) lkX15_485 (cmTw_type P W) rfl rfl rfl (fun _ => dsT_100 P W _) nn100 rfl (Nat.le_of_ble_eq_true rfl) (Nat.le_of_ble_eq_true rfl) (fun _ => rfl) rfl (fun z29 G30 => ?_)
    exact s_Tw_varStatement_b59 P W x1 x3 x4 G30
theorem s_Tw_varStatement (P W : Int) (x1 : Int) (G : St) : SS (MTw_varStatement P W) some 0 [(0, aR 100), (1, aI x1)] [] G (Tw_varStatement P W x1 G) := by
  refine r_aload_n 1 0 dX15_varStatement_0 rfl rfl rfl ?_
  refine r_bipush 3 20 dX15_varStatement_1 rfl rfl ?_
  refine r_iconst 4 0 dX15_varStatement_3 rfl rfl ?_
  refine r_iconst 5 0 dX15_varStatement_4 rfl rfl ?_
  refine r_iload_n 6 1 dX15_varStatement_5 rfl rfl rfl ?_
  refine r_callvI 9 (Mc := MTw_put P W) (o := 100) (as := [aI 20, aI 0, aI 0, aI x1]) (st := []) dX15_varStatement_6 rfl (c_Tw_put P W 20 0 0 x1 G) lkX15_423 (cmTw_put P W) rfl rfl rfl (fun _ => dsT_100 P W _) nn100 rfl (Nat.le_of_ble_eq_true rfl) (Nat.le_of_ble_eq_true rfl) (fun _ => rfl) rfl (fun z1 G2 => ?_)
  refine r_istore_n 10 [(2, aI z1), (0, aR 100), (1, aI x1)] dX15_varStatement_9 rfl rfl rfl rfl ?_
  refine r_aload_n 11 1 dX15_varStatement_10 rfl rfl rfl ?_
  refine r_dup 12 dX15_varStatement_11 rfl rfl ?_
  refine r_get 15 (aI (G2 100 6)) dX15_varStatement_12 fkX15_326 (fun _ => dsT_100 P W _) nn100 rfl rfl ?_
  refine r_iconst 16 3 dX15_varStatement_15 rfl rfl ?_
  refine r_iadd 17 dX15_varStatement_16 rfl ?_
  refine r_putI 20 dX15_varStatement_17 fkX15_326 (fun _ => dsT_100 P W _) nn100 rfl rfl ?_
  refine ss_tk (fun G3 => ?_)
  refine r_aload_n 21 1 dX15_varStatement_20 rfl rfl rfl ?_
  refine r_callvV 24 (Mc := MTw_gap P W) (o := 100) (as := []) (st := []) dX15_varStatement_21 rfl (c_Tw_gap P W G3) lkX15_383 (cmTw_gap P W) rfl rfl rfl (fun _ => dsT_100 P W _) nn100 rfl (Nat.le_of_ble_eq_true rfl) (Nat.le_of_ble_eq_true rfl) (fun _ => rfl) rfl (fun z4 G5 => ?_)
  refine r_aload_n 25 1 dX15_varStatement_24 rfl rfl rfl ?_
  refine r_get 28 (aI (G5 100 6)) dX15_varStatement_25 fkX15_326 (fun _ => dsT_100 P W _) nn100 rfl rfl ?_
  refine r_istore_n 29 [(3, aI (G5 100 6)), (2, aI z1), (0, aR 100), (1, aI x1)] dX15_varStatement_28 rfl rfl rfl rfl ?_
  refine r_aload_n 30 2 dX15_varStatement_29 rfl rfl rfl ?_
  refine r_callvI 33 (Mc := MTw_name P W) (o := 100) (as := []) (st := []) dX15_varStatement_30 rfl (c_Tw_name P W G5) lkX15_445 (cmTw_name P W) rfl rfl rfl (fun _ => dsT_100 P W _) nn100 rfl (Nat.le_of_ble_eq_true rfl) (Nat.le_of_ble_eq_true rfl) (fun _ => rfl) rfl (fun z6 G7 => ?_)
  refine r_istore 35 [(4, aI z6), (3, aI (G5 100 6)), (2, aI z1), (0, aR 100), (1, aI x1)] dX15_varStatement_33 rfl rfl rfl ?_
  refine r_aload_n 36 3 dX15_varStatement_35 rfl rfl rfl ?_
  refine r_get 39 (aI (G7 100 7)) dX15_varStatement_36 fkX15_323 (fun _ => dsT_100 P W _) nn100 rfl rfl ?_
  refine r_if_ne 48 42 dX15_varStatement_39 rfl rfl ?_ ?_
  · refine r_to [3, 4, 1, 0] [(0, aR 100), (1, aI x1), (3, aI (G5 100 6)), (4, aI z6)] rfl ?_
    exact s_Tw_varStatement_b48 P W x1 (G5 100 6) z6 G7
  · refine r_aload_n 43 3 dX15_varStatement_42 rfl rfl rfl ?_
    refine r_bipush 45 58 dX15_varStatement_43 rfl rfl ?_
    refine r_callvV 48 (Mc := MTw_sign P W) (o := 100) (as := [aI 58]) (st := []) dX15_varStatement_45 rfl (c_Tw_sign P W 58 G7) lkX15_442 (cmTw_sign P W) rfl rfl rfl (fun _ => dsT_100 P W _) nn100 rfl (Nat.le_of_ble_eq_true rfl) (Nat.le_of_ble_eq_true rfl) (fun _ => rfl) rfl (fun z31 G32 => ?_)
    refine r_to [3, 4, 1, 0] [(0, aR 100), (1, aI x1), (3, aI (G5 100 6)), (4, aI z6)] rfl ?_
    exact s_Tw_varStatement_b48 P W x1 (G5 100 6) z6 G32
theorem c_Tw_varStatement (P W : Int) (x1 : Int) (G : St) : MG (MTw_varStatement P W) [aR 100, aI x1] G (Tw_varStatement P W x1 G) := MG.of plX15 (Nat.le_of_ble_eq_true rfl) (s_Tw_varStatement P W x1 G)
theorem s_Tw_program_b246 (P W : Int) (X42 : Int × St → Option (Int × St)) (hX42 : ∀ s, So (MTw_program P W) 42 [(0, aR 100), (1, aI (s.1))] [] s.2 (X42 s)) (x1 : Int) (x2 : Int) (G : St) : SS (MTw_program P W) (lk X42 some) 246 [(0, aR 100), (1, aI x1), (2, aI x2)] [] G (Tw_program_b246 P W x1 x2 G) := by
  refine r_aload_n 247 0 dX15_program_246 rfl rfl rfl ?_
  refine r_iload_n 248 2 dX15_program_247 rfl rfl rfl ?_
  refine r_callvV 251 (Mc := MTw_assignment P W) (o := 100) (as := [aI x2]) (st := []) dX15_program_248 rfl (c_Tw_assignment P W x2 G) lkX15_531 (cmTw_assignment P W) rfl rfl rfl (fun _ => dsT_100 P W _) nn100 rfl (Nat.le_of_ble_eq_true rfl) (Nat.le_of_ble_eq_true rfl) (fun _ => rfl) rfl (fun z19 G20 => ?_)
  refine r_goto 42 dX15_program_251 rfl ?_
  refine r_to [0, 1] [(0, aR 100), (1, aI x1)] rfl ?_
  exact SS.back (hX42 (x1, G20))
theorem s_Tw_program_b221 (P W : Int) (X42 : Int × St → Option (Int × St)) (hX42 : ∀ s, So (MTw_program P W) 42 [(0, aR 100), (1, aI (s.1))] [] s.2 (X42 s)) (x1 : Int) (x2 : Int) (G : St) : SS (MTw_program P W) (lk X42 some) 221 [(0, aR 100), (1, aI x1), (2, aI x2)] [] G (Tw_program_b221 P W x1 x2 G) := by
  refine r_aload_n 222 0 dX15_program_221 rfl rfl rfl ?_
  refine r_get 225 (aI (G 100 26)) dX15_program_222 fkX15_501 (fun _ => dsT_100 P W _) nn100 rfl rfl ?_
  refine r_if_ne 246 228 dX15_program_225 rfl rfl ?_ ?_
  · exact s_Tw_program_b246 P W X42 hX42 x1 x2 G
  · refine r_aload_n 229 0 dX15_program_228 rfl rfl rfl ?_
    refine r_ldcsw 232 8 dX15_program_229 q2402 rfl rfl rfl ?_
    refine r_callvI 235 (Mc := MTw_isWord P W) (o := 100) (as := [aR 78]) (st := []) dX15_program_232 rfl (c_Tw_isWord P W 78 G) lkX15_355 (cmTw_isWord P W) rfl rfl rfl (fun _ => dsT_100 P W _) nn100 rfl (Nat.le_of_ble_eq_true rfl) (Nat.le_of_ble_eq_true rfl) (fun _ => rfl) rfl (fun z21 G22 => ?_)
    refine r_if_eq 246 238 dX15_program_235 rfl rfl ?_ ?_
    · exact s_Tw_program_b246 P W X42 hX42 x1 x2 G22
    · refine r_aload_n 239 0 dX15_program_238 rfl rfl rfl ?_
      refine r_iload_n 240 2 dX15_program_239 rfl rfl rfl ?_
      refine r_callvV 243 (Mc := MTw_outputItem P W) (o := 100) (as := [aI x2]) (st := []) dX15_program_240 rfl (c_Tw_outputItem P W x2 G22) lkX15_528 (cmTw_outputItem P W) rfl rfl rfl (fun _ => dsT_100 P W _) nn100 rfl (Nat.le_of_ble_eq_true rfl) (Nat.le_of_ble_eq_true rfl) (fun _ => rfl) rfl (fun z23 G24 => ?_)
      refine r_goto 251 dX15_program_243 rfl ?_
      refine r_goto 42 dX15_program_251 rfl ?_
      refine r_to [0, 1] [(0, aR 100), (1, aI x1)] rfl ?_
      exact SS.back (hX42 (x1, G24))
theorem s_Tw_program_b196 (P W : Int) (X42 : Int × St → Option (Int × St)) (hX42 : ∀ s, So (MTw_program P W) 42 [(0, aR 100), (1, aI (s.1))] [] s.2 (X42 s)) (x1 : Int) (x2 : Int) (G : St) : SS (MTw_program P W) (lk X42 some) 196 [(0, aR 100), (1, aI x1), (2, aI x2)] [] G (Tw_program_b196 P W x1 x2 G) := by
  refine r_aload_n 197 0 dX15_program_196 rfl rfl rfl ?_
  refine r_get 200 (aI (G 100 26)) dX15_program_197 fkX15_501 (fun _ => dsT_100 P W _) nn100 rfl rfl ?_
  refine r_if_ne 221 203 dX15_program_200 rfl rfl ?_ ?_
  · exact s_Tw_program_b221 P W X42 hX42 x1 x2 G
  · refine r_aload_n 204 0 dX15_program_203 rfl rfl rfl ?_
    refine r_ldcsw 207 3 dX15_program_204 q2399 rfl rfl rfl ?_
    refine r_callvI 210 (Mc := MTw_isWord P W) (o := 100) (as := [aR 73]) (st := []) dX15_program_207 rfl (c_Tw_isWord P W 73 G) lkX15_355 (cmTw_isWord P W) rfl rfl rfl (fun _ => dsT_100 P W _) nn100 rfl (Nat.le_of_ble_eq_true rfl) (Nat.le_of_ble_eq_true rfl) (fun _ => rfl) rfl (fun z25 G26 => ?_)
    refine r_if_eq 221 213 dX15_program_210 rfl rfl ?_ ?_
    · exact s_Tw_program_b221 P W X42 hX42 x1 x2 G26
    · refine r_aload_n 214 0 dX15_program_213 rfl rfl rfl ?_
      refine r_iload_n 215 2 dX15_program_214 rfl rfl rfl ?_
      refine r_callvV 218 (Mc := MTw_defItem P W) (o := 100) (as := [aI x2]) (st := []) dX15_program_215 rfl (c_Tw_defItem P W x2 G26) lkX15_525 (cmTw_defItem P W) rfl rfl rfl (fun _ => dsT_100 P W _) nn100 rfl (Nat.le_of_ble_eq_true rfl) (Nat.le_of_ble_eq_true rfl) (fun _ => rfl) rfl (fun z27 G28 => ?_)
      refine r_goto 251 dX15_program_218 rfl ?_
      refine r_goto 42 dX15_program_251 rfl ?_
      refine r_to [0, 1] [(0, aR 100), (1, aI x1)] rfl ?_
      exact SS.back (hX42 (x1, G28))
theorem s_Tw_program_b117 (P W : Int) (X42 : Int × St → Option (Int × St)) (hX42 : ∀ s, So (MTw_program P W) 42 [(0, aR 100), (1, aI (s.1))] [] s.2 (X42 s)) (x1 : Int) (x2 : Int) (G : St) : SS (MTw_program P W) (lk X42 some) 117 [(0, aR 100), (1, aI x1), (2, aI x2)] [] G (Tw_program_b117 P W x1 x2 G) := by
  refine r_aload_n 118 0 dX15_program_117 rfl rfl rfl ?_
  refine r_ldcsw 121 2 dX15_program_118 q2398 rfl rfl rfl ?_
  refine r_callvI 124 (Mc := MTw_isWord P W) (o := 100) (as := [aR 72]) (st := []) dX15_program_121 rfl (c_Tw_isWord P W 72 G) lkX15_355 (cmTw_isWord P W) rfl rfl rfl (fun _ => dsT_100 P W _) nn100 rfl (Nat.le_of_ble_eq_true rfl) (Nat.le_of_ble_eq_true rfl) (fun _ => rfl) rfl (fun z13 G14 => ?_)
  refine r_if_eq 135 127 dX15_program_124 rfl rfl ?_ ?_
  · refine r_aload_n 136 0 dX15_program_135 rfl rfl rfl ?_
    refine r_ldcsw 139 6 dX15_program_136 q2352 rfl rfl rfl ?_
    refine r_callvI 142 (Mc := MTw_isWord P W) (o := 100) (as := [aR 76]) (st := []) dX15_program_139 rfl (c_Tw_isWord P W 76 G14) lkX15_355 (cmTw_isWord P W) rfl rfl rfl (fun _ => dsT_100 P W _) nn100 rfl (Nat.le_of_ble_eq_true rfl) (Nat.le_of_ble_eq_true rfl) (fun _ => rfl) rfl (fun z15 G16 => ?_)
    refine r_if_eq 153 145 dX15_program_142 rfl rfl ?_ ?_
    · refine r_aload_n 154 0 dX15_program_153 rfl rfl rfl ?_
      refine r_ldcsw 157 4 dX15_program_154 q2400 rfl rfl rfl ?_
      refine r_callvI 160 (Mc := MTw_isWord P W) (o := 100) (as := [aR 74]) (st := []) dX15_program_157 rfl (c_Tw_isWord P W 74 G16) lkX15_355 (cmTw_isWord P W) rfl rfl rfl (fun _ => dsT_100 P W _) nn100 rfl (Nat.le_of_ble_eq_true rfl) (Nat.le_of_ble_eq_true rfl) (fun _ => rfl) rfl (fun z17 G18 => ?_)
      refine r_if_eq 171 163 dX15_program_160 rfl rfl ?_ ?_
      · refine r_aload_n 172 0 dX15_program_171 rfl rfl rfl ?_
        refine r_get 175 (aI (G18 100 26)) dX15_program_172 fkX15_501 (fun _ => dsT_100 P W _) nn100 rfl rfl ?_
        refine r_if_ne 196 178 dX15_program_175 rfl rfl ?_ ?_
        · exact s_Tw_program_b196 P W X42 hX42 x1 x2 G18
        · refine r_aload_n 179 0 dX15_program_178 rfl rfl rfl ?_
          refine r_ldcsw 182 0 dX15_program_179 q2396 rfl rfl rfl ?_
          refine r_callvI 185 (Mc := MTw_isWord P W) (o := 100) (as := [aR 70]) (st := []) dX15_program_182 rfl (c_Tw_isWord P W 70 G18) lkX15_355 (cmTw_isWord P W) rfl rfl rfl (fun _ => dsT_100 P W _) nn100 rfl (Nat.le_of_ble_eq_true rfl) (Nat.le_of_ble_eq_true rfl) (fun _ => rfl) rfl (fun z29 G30 => ?_)
          refine r_if_eq 196 188 dX15_program_185 rfl rfl ?_ ?_
          · exact s_Tw_program_b196 P W X42 hX42 x1 x2 G30
          · refine r_aload_n 189 0 dX15_program_188 rfl rfl rfl ?_
            refine r_iload_n 190 2 dX15_program_189 rfl rfl rfl ?_
            refine r_callvV 193 (Mc := MTw_inputItem P W) (o := 100) (as := [aI x2]) (st := []) dX15_program_190 rfl (c_Tw_inputItem P W x2 G30) lkX15_522 (cmTw_inputItem P W) rfl rfl rfl (fun _ => dsT_100 P W _) nn100 rfl (Nat.le_of_ble_eq_true rfl) (Nat.le_of_ble_eq_true rfl) (fun _ => rfl) rfl (fun z31 G32 => ?_)
            refine r_goto 251 dX15_program_193 rfl ?_
            refine r_goto 42 dX15_program_251 rfl ?_
            refine r_to [0, 1] [(0, aR 100), (1, aI x1)] rfl ?_
            exact SS.back (hX42 (x1, G32))
      · refine r_aload_n 164 0 dX15_program_163 rfl rfl rfl ?_
        refine r_iload_n 165 2 dX15_program_164 rfl rfl rfl ?_
        refine r_callvV 168 (Mc := MTw_forStatement P W) (o := 100) (as := [aI x2]) (st := []) dX15_program_165 rfl (c_Tw_forStatement P W x2 G18) lkX15_519 (cmTw_forStatement P W) rfl rfl rfl (fun _ => dsT_100 P W _) nn100 rfl (Nat.le_of_ble_eq_true rfl) (Nat.le_of_ble_eq_true rfl) (fun _ => rfl) rfl (fun z33 G34 => ?_)
        refine r_goto 251 dX15_program_168 rfl ?_
        refine r_goto 42 dX15_program_251 rfl ?_
        refine r_to [0, 1] [(0, aR 100), (1, aI x1)] rfl ?_
        exact SS.back (hX42 (x1, G34))
    · refine r_aload_n 146 0 dX15_program_145 rfl rfl rfl ?_
      refine r_iload_n 147 2 dX15_program_146 rfl rfl rfl ?_
      refine r_callvV 150 (Mc := MTw_ifStatement P W) (o := 100) (as := [aI x2]) (st := []) dX15_program_147 rfl (c_Tw_ifStatement P W x2 G16) lkX15_507 (cmTw_ifStatement P W) rfl rfl rfl (fun _ => dsT_100 P W _) nn100 rfl (Nat.le_of_ble_eq_true rfl) (Nat.le_of_ble_eq_true rfl) (fun _ => rfl) rfl (fun z35 G36 => ?_)
      refine r_goto 251 dX15_program_150 rfl ?_
      refine r_goto 42 dX15_program_251 rfl ?_
      refine r_to [0, 1] [(0, aR 100), (1, aI x1)] rfl ?_
      exact SS.back (hX42 (x1, G36))
  · refine r_aload_n 128 0 dX15_program_127 rfl rfl rfl ?_
    refine r_iload_n 129 2 dX15_program_128 rfl rfl rfl ?_
    refine r_callvV 132 (Mc := MTw_varStatement P W) (o := 100) (as := [aI x2]) (st := []) dX15_program_129 rfl (c_Tw_varStatement P W x2 G14) lkX15_516 (cmTw_varStatement P W) rfl rfl rfl (fun _ => dsT_100 P W _) nn100 rfl (Nat.le_of_ble_eq_true rfl) (Nat.le_of_ble_eq_true rfl) (fun _ => rfl) rfl (fun z37 G38 => ?_)
    refine r_goto 251 dX15_program_132 rfl ?_
    refine r_goto 42 dX15_program_251 rfl ?_
    refine r_to [0, 1] [(0, aR 100), (1, aI x1)] rfl ?_
    exact SS.back (hX42 (x1, G38))
theorem s_Tw_program_b89 (P W : Int) (X42 : Int × St → Option (Int × St)) (hX42 : ∀ s, So (MTw_program P W) 42 [(0, aR 100), (1, aI (s.1))] [] s.2 (X42 s)) (G : St) : SS (MTw_program P W) (lk X42 some) 89 [(0, aR 100)] [] G (Tw_program_b89 P W G) := by
  refine r_iconst 90 0 dX15_program_89 rfl rfl ?_
  refine r_istore_n 91 [(1, aI 0), (0, aR 100)] dX15_program_90 rfl rfl rfl rfl ?_
  refine r_goto 251 dX15_program_91 rfl ?_
  refine r_goto 42 dX15_program_251 rfl ?_
  refine r_to [1, 0] [(0, aR 100), (1, aI 0)] rfl ?_
  exact SS.back (hX42 (0, G))
theorem s_Tw_program_s42 (P W : Int) (X42 : Int × St → Option (Int × St)) (hX42 : ∀ s, So (MTw_program P W) 42 [(0, aR 100), (1, aI (s.1))] [] s.2 (X42 s)) (x1 : Int) (G : St) : SS (MTw_program P W) (lk X42 some) 42 [(0, aR 100), (1, aI x1)] [] G (Tw_program_s42 P W x1 G) := by
  refine r_iload_n 43 1 dX15_program_42 rfl rfl rfl ?_
  refine r_if_eq 254 46 dX15_program_43 rfl rfl ?_ ?_
  · refine SS.ex ?_
    exact r_return dX15_program_254 rfl
  · refine r_aload_n 47 0 dX15_program_46 rfl rfl rfl ?_
    refine r_get 50 (aI (G 100 7)) dX15_program_47 fkX15_323 (fun _ => dsT_100 P W _) nn100 rfl rfl ?_
    refine r_if_ne 254 53 dX15_program_50 rfl rfl ?_ ?_
    · refine SS.ex ?_
      exact r_return dX15_program_254 rfl
    · refine r_aload_n 54 0 dX15_program_53 rfl rfl rfl ?_
      refine r_callvV 57 (Mc := MTw_gap P W) (o := 100) (as := []) (st := []) dX15_program_54 rfl (c_Tw_gap P W G) lkX15_383 (cmTw_gap P W) rfl rfl rfl (fun _ => dsT_100 P W _) nn100 rfl (Nat.le_of_ble_eq_true rfl) (Nat.le_of_ble_eq_true rfl) (fun _ => rfl) rfl (fun z9 G10 => ?_)
      refine r_aload_n 58 0 dX15_program_57 rfl rfl rfl ?_
      refine r_get 61 (aI (G10 100 6)) dX15_program_58 fkX15_326 (fun _ => dsT_100 P W _) nn100 rfl rfl ?_
      refine r_istore_n 62 [(2, aI (G10 100 6)), (0, aR 100), (1, aI x1)] dX15_program_61 rfl rfl rfl rfl ?_
      refine r_aload_n 63 1 dX15_program_62 rfl rfl rfl ?_
      refine r_get 66 (aI (G10 100 6)) dX15_program_63 fkX15_326 (fun _ => dsT_100 P W _) nn100 rfl rfl ?_
      refine r_aload_n 67 1 dX15_program_66 rfl rfl rfl ?_
      refine r_get 70 (aI (G10 100 5)) dX15_program_67 fkX15_320 (fun _ => dsT_100 P W _) nn100 rfl rfl ?_
      refine r_icmp_ne 94 73 dX15_program_70 rfl rfl ?_ ?_
      · refine r_aload_n 95 1 dX15_program_94 rfl rfl rfl ?_
        refine r_bipush 97 125 dX15_program_95 rfl rfl ?_
        refine r_callvI 100 (Mc := MTw_isSign P W) (o := 100) (as := [aI 125]) (st := []) dX15_program_97 rfl (c_Tw_isSign P W 125 G10) lkX15_408 (cmTw_isSign P W) rfl rfl rfl (fun _ => dsT_100 P W _) nn100 rfl (Nat.le_of_ble_eq_true rfl) (Nat.le_of_ble_eq_true rfl) (fun _ => rfl) rfl (fun z11 G12 => ?_)
        refine r_if_eq 117 103 dX15_program_100 rfl rfl ?_ ?_
        · refine r_to [1, 2, 0] [(0, aR 100), (1, aI x1), (2, aI (G10 100 6))] rfl ?_
          exact s_Tw_program_b117 P W X42 hX42 x1 (G10 100 6) G12
        · refine r_aload_n 104 1 dX15_program_103 rfl rfl rfl ?_
          refine r_get 107 (aI (G12 100 26)) dX15_program_104 fkX15_501 (fun _ => dsT_100 P W _) nn100 rfl rfl ?_
          refine r_if_le 117 110 dX15_program_107 rfl rfl ?_ ?_
          · refine r_to [1, 2, 0] [(0, aR 100), (1, aI x1), (2, aI (G10 100 6))] rfl ?_
            exact s_Tw_program_b117 P W X42 hX42 x1 (G10 100 6) G12
          · refine r_aload_n 111 1 dX15_program_110 rfl rfl rfl ?_
            refine r_callvV 114 (Mc := MTw_closeBlock P W) (o := 100) (as := []) (st := []) dX15_program_111 rfl (c_Tw_closeBlock P W G12) lkX15_513 (cmTw_closeBlock P W) rfl rfl rfl (fun _ => dsT_100 P W _) nn100 rfl (Nat.le_of_ble_eq_true rfl) (Nat.le_of_ble_eq_true rfl) (fun _ => rfl) rfl (fun z39 G40 => ?_)
            refine r_goto 251 dX15_program_114 rfl ?_
            refine r_goto 42 dX15_program_251 rfl ?_
            refine r_to [1, 2] [(0, aR 100), (1, aI x1)] rfl ?_
            exact SS.back (hX42 (x1, G40))
      · refine r_aload_n 74 1 dX15_program_73 rfl rfl rfl ?_
        refine r_get 77 (aI (G10 100 26)) dX15_program_74 fkX15_501 (fun _ => dsT_100 P W _) nn100 rfl rfl ?_
        refine r_if_le 89 80 dX15_program_77 rfl rfl ?_ ?_
        · refine r_to [1] [(0, aR 100)] rfl ?_
          exact s_Tw_program_b89 P W X42 hX42 G10
        · refine r_aload_n 81 1 dX15_program_80 rfl rfl rfl ?_
          refine r_iconst 82 1 dX15_program_81 rfl rfl ?_
          refine r_aload_n 83 1 dX15_program_82 rfl rfl rfl ?_
          refine r_get 86 (aI (G10 100 6)) dX15_program_83 fkX15_326 (fun _ => dsT_100 P W _) nn100 rfl rfl ?_
          refine r_callvV 89 (Mc := MTw_fail P W) (o := 100) (as := [aI 1, aI (G10 100 6)]) (st := []) dX15_program_86 rfl (c_Tw_fail P W 1 (G10 100 6) G10) lkX15_390 (cmTw_fail P W) rfl rfl rfl (fun _ => dsT_100 P W _) nn100 rfl (Nat.le_of_ble_eq_true rfl) (Nat.le_of_ble_eq_true rfl) (fun _ => rfl) rfl (fun z41 G42 => ?_)
          refine r_to [1] [(0, aR 100)] rfl ?_
          exact s_Tw_program_b89 P W X42 hX42 G42
theorem sl_Tw_program_42 (P W : Int) (x1 : Int) (G : St) : SS (MTw_program P W) some 42 [(0, aR 100), (1, aI x1)] [] G (Tw_program_l42 P W x1 G) := by
  exact SS.loop (σ := Int × St) (fun s => [(0, aR 100), (1, aI (s.1))]) (fun s => s.2) (fun s => Tw_program_s42 P W s.1 s.2) (fun X42 hX42 s => s_Tw_program_s42 P W   X42 hX42 s.1 s.2) (x1, G)
theorem s_Tw_program (P W : Int) (G : St) : SS (MTw_program P W) some 0 [(0, aR 100)] [] G (Tw_program P W G) := by
  refine r_aload_n 1 0 dX15_program_0 rfl rfl rfl ?_
  refine r_iconst 2 0 dX15_program_1 rfl rfl ?_
  refine r_putI 5 dX15_program_2 fkX15_326 (fun _ => dsT_100 P W _) nn100 rfl rfl ?_
  refine ss_tk (fun G1 => ?_)
  refine r_aload_n 6 0 dX15_program_5 rfl rfl rfl ?_
  refine r_iconst 7 0 dX15_program_6 rfl rfl ?_
  refine r_putI 10 dX15_program_7 fkX15_411 (fun _ => dsT_100 P W _) nn100 rfl rfl ?_
  refine ss_tk (fun G2 => ?_)
  refine r_aload_n 11 0 dX15_program_10 rfl rfl rfl ?_
  refine r_iconst 12 0 dX15_program_11 rfl rfl ?_
  refine r_putI 15 dX15_program_12 fkX15_393 (fun _ => dsT_100 P W _) nn100 rfl rfl ?_
  refine ss_tk (fun G3 => ?_)
  refine r_aload_n 16 0 dX15_program_15 rfl rfl rfl ?_
  refine r_iconst 17 0 dX15_program_16 rfl rfl ?_
  refine r_putI 20 dX15_program_17 fkX15_501 (fun _ => dsT_100 P W _) nn100 rfl rfl ?_
  refine ss_tk (fun G4 => ?_)
  refine r_aload_n 21 0 dX15_program_20 rfl rfl rfl ?_
  refine r_iconst 22 0 dX15_program_21 rfl rfl ?_
  refine r_putI 25 dX15_program_22 fkX15_417 (fun _ => dsT_100 P W _) nn100 rfl rfl ?_
  refine ss_tk (fun G5 => ?_)
  refine r_aload_n 26 0 dX15_program_25 rfl rfl rfl ?_
  refine r_iconst 27 0 dX15_program_26 rfl rfl ?_
  refine r_putI 30 dX15_program_27 fkX15_414 (fun _ => dsT_100 P W _) nn100 rfl rfl ?_
  refine ss_tk (fun G6 => ?_)
  refine r_aload_n 31 0 dX15_program_30 rfl rfl rfl ?_
  refine r_iconst 32 0 dX15_program_31 rfl rfl ?_
  refine r_putI 35 dX15_program_32 fkX15_488 (fun _ => dsT_100 P W _) nn100 rfl rfl ?_
  refine ss_tk (fun G7 => ?_)
  refine r_aload_n 36 0 dX15_program_35 rfl rfl rfl ?_
  refine r_iconst 37 0 dX15_program_36 rfl rfl ?_
  refine r_putI 40 dX15_program_37 fkX15_493 (fun _ => dsT_100 P W _) nn100 rfl rfl ?_
  refine ss_tk (fun G8 => ?_)
  refine r_iconst 41 1 dX15_program_40 rfl rfl ?_
  refine r_istore_n 42 [(1, aI 1), (0, aR 100)] dX15_program_41 rfl rfl rfl rfl ?_
  refine r_to [1, 0] [(0, aR 100), (1, aI 1)] rfl ?_
  exact sl_Tw_program_42 P W 1 G8
theorem c_Tw_program (P W : Int) (G : St) : MG (MTw_program P W) [aR 100] G (Tw_program P W G) := MG.of plX15 (Nat.le_of_ble_eq_true rfl) (s_Tw_program P W G)
theorem s_Tw_mustPublic (P W : Int) (G : St) : SS (MTw_mustPublic P W) some 0 [(0, aR 100)] [] G (Tw_mustPublic G) := by
  refine r_aload_n 1 0 dX15_mustPublic_0 rfl rfl rfl ?_
  refine r_get 4 (aI (G 100 7)) dX15_mustPublic_1 fkX15_323 (fun _ => dsT_100 P W _) nn100 rfl rfl ?_
  refine r_if_ne 38 7 dX15_mustPublic_4 rfl rfl ?_ ?_
  · exact r_return dX15_mustPublic_38 rfl
  · refine r_aload_n 8 0 dX15_mustPublic_7 rfl rfl rfl ?_
    refine r_get 11 (aR 147) dX15_mustPublic_8 fkX15_90 (fun _ => dsT_100 P W _) nn100 rfl rfl ?_
    refine r_aload_n 12 0 dX15_mustPublic_11 rfl rfl rfl ?_
    refine r_get 15 (aI (G 100 43)) dX15_mustPublic_12 fkX15_540 (fun _ => dsT_100 P W _) nn100 rfl rfl ?_
    refine r_iconst 16 1 dX15_mustPublic_15 rfl rfl ?_
    refine r_isub 17 dX15_mustPublic_16 rfl ?_
    refine r_zald 18 dX15_mustPublic_17 (fun _ _ _ => dsT_147 P W _) (fun _ _ => nn147) rfl ?_
    refine r_if_ne 38 21 dX15_mustPublic_18 rfl rfl ?_ ?_
    · exact r_return dX15_mustPublic_38 rfl
    · refine r_aload_n 22 0 dX15_mustPublic_21 rfl rfl rfl ?_
      refine r_bipush 24 6 dX15_mustPublic_22 rfl rfl ?_
      refine r_aload_n 25 0 dX15_mustPublic_24 rfl rfl rfl ?_
      refine r_get 28 (aR 146) dX15_mustPublic_25 fkX15_87 (fun _ => dsT_100 P W _) nn100 rfl rfl ?_
      refine r_aload_n 29 0 dX15_mustPublic_28 rfl rfl rfl ?_
      refine r_get 32 (aI (G 100 43)) dX15_mustPublic_29 fkX15_540 (fun _ => dsT_100 P W _) nn100 rfl rfl ?_
      refine r_iconst 33 1 dX15_mustPublic_32 rfl rfl ?_
      refine r_isub 34 dX15_mustPublic_33 rfl ?_
      refine r_iald 35 dX15_mustPublic_34 (fun _ _ _ => dsT_146 P W _) (fun _ _ => nn146) rfl ?_
      refine r_callvV 38 (Mc := MTw_fail P W) (o := 100) (as := [aI 6, aI (G 146 ((G 100 43) - 1))]) (st := []) dX15_mustPublic_35 rfl (c_Tw_fail P W 6 (G 146 ((G 100 43) - 1)) G) lkX15_390 (cmTw_fail P W) rfl rfl rfl (fun _ => dsT_100 P W _) nn100 rfl (Nat.le_of_ble_eq_true rfl) (Nat.le_of_ble_eq_true rfl) (fun _ => rfl) rfl (fun z1 G2 => ?_)
      exact r_return dX15_mustPublic_38 rfl
theorem c_Tw_mustPublic (P W : Int) (G : St) : MG (MTw_mustPublic P W) [aR 100] G (Tw_mustPublic G) := MG.of plX15 (Nat.le_of_ble_eq_true rfl) (s_Tw_mustPublic P W G)
theorem s_Tw_binarySort_b283 (P W : Int) (s0 : Int) (s1 : Int) (G : St) : SS (MTw_binarySort P W) some 283 [] [aI s0, aI s1, aR 145] G (Tw_binarySort_b283 s0 s1 G) := by
  refine r_iast 284 dX15_binarySort_283 (fun _ _ _ => dsT_145 P W _) (fun _ _ => nn145) rfl ?_
  refine ss_tk (fun G7 => ?_)
  exact r_return dX15_binarySort_284 rfl
theorem s_Tw_binarySort_b250 (P W : Int) (x2 : Int) (x3 : Int) (x6 : Int) (s0 : Int) (s1 : Int) (G : St) : SS (MTw_binarySort P W) some 250 [(0, aR 100), (2, aI x2), (3, aI x3), (6, aI x6)] [aI s0, aI s1, aR 147] G (Tw_binarySort_b250 x2 x3 x6 s0 s1 G) := by
  refine r_zast 251 dX15_binarySort_250 (fun _ _ _ => dsT_147 P W _) (fun _ _ => nn147) rfl ?_
  refine ss_tk (fun G6 => ?_)
  refine r_aload_n 252 0 dX15_binarySort_251 rfl rfl rfl ?_
  refine r_get 255 (aR 145) dX15_binarySort_252 fkX15_84 (fun _ => dsT_100 P W _) nn100 rfl rfl ?_
  refine r_aload_n 256 0 dX15_binarySort_255 rfl rfl rfl ?_
  refine r_get 259 (aI (G6 100 43)) dX15_binarySort_256 fkX15_540 (fun _ => dsT_100 P W _) nn100 rfl rfl ?_
  refine r_iconst 260 1 dX15_binarySort_259 rfl rfl ?_
  refine r_isub 261 dX15_binarySort_260 rfl ?_
  refine r_iload_n 262 1 dX15_binarySort_261 rfl rfl rfl ?_
  refine r_bipush 264 6 dX15_binarySort_262 rfl rfl ?_
  refine SS.phi (fun VV_ => Tw_binarySort_b283 VV_ ((G6 100 43) - 1) G6) ?_
  refine r_icmp_lt 273 267 dX15_binarySort_264 rfl rfl ?_ ?_
  · refine r_iload 275 3 dX15_binarySort_273 rfl rfl ?_
    refine SS.phi (fun VV_ => Tw_binarySort_b283 VV_ ((G6 100 43) - 1) G6) ?_
    refine r_if_eq 282 278 dX15_binarySort_275 rfl rfl ?_ ?_
    · refine r_iload_n 283 2 dX15_binarySort_282 rfl rfl rfl ?_
      refine r_to [] [] rfl ?_
      exact s_Tw_binarySort_b283 P W x3 ((G6 100 43) - 1) G6
    · refine r_iconst 279 1 dX15_binarySort_278 rfl rfl ?_
      refine r_goto 283 dX15_binarySort_279 rfl ?_
      refine r_to [] [] rfl ?_
      exact s_Tw_binarySort_b283 P W 1 ((G6 100 43) - 1) G6
  · refine r_iload_n 268 1 dX15_binarySort_267 rfl rfl rfl ?_
    refine r_bipush 270 11 dX15_binarySort_268 rfl rfl ?_
    refine SS.phi (fun VV_ => Tw_binarySort_b283 VV_ ((G6 100 43) - 1) G6) ?_
    refine r_icmp_le 278 273 dX15_binarySort_270 rfl rfl ?_ ?_
    · refine r_iconst 279 1 dX15_binarySort_278 rfl rfl ?_
      refine r_goto 283 dX15_binarySort_279 rfl ?_
      refine r_to [] [] rfl ?_
      exact s_Tw_binarySort_b283 P W 1 ((G6 100 43) - 1) G6
    · refine r_iload 275 3 dX15_binarySort_273 rfl rfl ?_
      refine SS.phi (fun VV_ => Tw_binarySort_b283 VV_ ((G6 100 43) - 1) G6) ?_
      refine r_if_eq 282 278 dX15_binarySort_275 rfl rfl ?_ ?_
      · refine r_iload_n 283 2 dX15_binarySort_282 rfl rfl rfl ?_
        refine r_to [] [] rfl ?_
        exact s_Tw_binarySort_b283 P W x3 ((G6 100 43) - 1) G6
      · refine r_iconst 279 1 dX15_binarySort_278 rfl rfl ?_
        refine r_goto 283 dX15_binarySort_279 rfl ?_
        refine r_to [] [] rfl ?_
        exact s_Tw_binarySort_b283 P W 1 ((G6 100 43) - 1) G6
theorem s_Tw_binarySort_b192 (P W : Int) (x1 : Int) (x2 : Int) (x3 : Int) (x6 : Int) (G : St) : SS (MTw_binarySort P W) some 192 [(0, aR 100), (1, aI x1), (2, aI x2), (3, aI x3), (6, aI x6)] [] G (Tw_binarySort_b192 x1 x2 x3 x6 G) := by
  refine r_aload_n 193 0 dX15_binarySort_192 rfl rfl rfl ?_
  refine r_get 196 (aR 117) dX15_binarySort_193 fkX15_28 (fun _ => dsT_100 P W _) nn100 rfl rfl ?_
  refine r_iload_n 197 1 dX15_binarySort_196 rfl rfl rfl ?_
  refine r_iload_n 198 3 dX15_binarySort_197 rfl rfl rfl ?_
  refine r_iast 199 dX15_binarySort_198 (fun _ _ _ => dsT_117 P W _) (fun _ _ => nn117) rfl ?_
  refine ss_tk (fun G4 => ?_)
  refine r_aload_n 200 0 dX15_binarySort_199 rfl rfl rfl ?_
  refine r_dup 201 dX15_binarySort_200 rfl rfl ?_
  refine r_get 204 (aI (G4 100 43)) dX15_binarySort_201 fkX15_540 (fun _ => dsT_100 P W _) nn100 rfl rfl ?_
  refine r_iconst 205 1 dX15_binarySort_204 rfl rfl ?_
  refine r_isub 206 dX15_binarySort_205 rfl ?_
  refine r_putI 209 dX15_binarySort_206 fkX15_540 (fun _ => dsT_100 P W _) nn100 rfl rfl ?_
  refine ss_tk (fun G5 => ?_)
  refine r_aload_n 210 0 dX15_binarySort_209 rfl rfl rfl ?_
  refine r_get 213 (aR 147) dX15_binarySort_210 fkX15_90 (fun _ => dsT_100 P W _) nn100 rfl rfl ?_
  refine r_aload_n 214 0 dX15_binarySort_213 rfl rfl rfl ?_
  refine r_get 217 (aI (G5 100 43)) dX15_binarySort_214 fkX15_540 (fun _ => dsT_100 P W _) nn100 rfl rfl ?_
  refine r_iconst 218 1 dX15_binarySort_217 rfl rfl ?_
  refine r_isub 219 dX15_binarySort_218 rfl ?_
  refine r_aload_n 220 0 dX15_binarySort_219 rfl rfl rfl ?_
  refine r_get 223 (aR 147) dX15_binarySort_220 fkX15_90 (fun _ => dsT_100 P W _) nn100 rfl rfl ?_
  refine r_aload_n 224 0 dX15_binarySort_223 rfl rfl rfl ?_
  refine r_get 227 (aI (G5 100 43)) dX15_binarySort_224 fkX15_540 (fun _ => dsT_100 P W _) nn100 rfl rfl ?_
  refine r_iconst 228 1 dX15_binarySort_227 rfl rfl ?_
  refine r_isub 229 dX15_binarySort_228 rfl ?_
  refine r_zald 230 dX15_binarySort_229 (fun _ _ _ => dsT_147 P W _) (fun _ _ => nn147) rfl ?_
  refine r_if_eq 249 233 dX15_binarySort_230 rfl rfl ?_ ?_
  · refine r_iconst 250 0 dX15_binarySort_249 rfl rfl ?_
    refine r_to [0, 2, 3, 4] [(0, aR 100), (2, aI x2), (3, aI x3), (6, aI x6)] rfl ?_
    exact s_Tw_binarySort_b250 P W x2 x3 x6 0 ((G5 100 43) - 1) G5
  · refine r_aload_n 234 0 dX15_binarySort_233 rfl rfl rfl ?_
    refine r_get 237 (aR 147) dX15_binarySort_234 fkX15_90 (fun _ => dsT_100 P W _) nn100 rfl rfl ?_
    refine r_aload_n 238 0 dX15_binarySort_237 rfl rfl rfl ?_
    refine r_get 241 (aI (G5 100 43)) dX15_binarySort_238 fkX15_540 (fun _ => dsT_100 P W _) nn100 rfl rfl ?_
    refine r_zald 242 dX15_binarySort_241 (fun _ _ _ => dsT_147 P W _) (fun _ _ => nn147) rfl ?_
    refine SS.phi (fun VV_ => Tw_binarySort_b250 x2 x3 x6 VV_ ((G5 100 43) - 1) G5) ?_
    refine r_if_eq 249 245 dX15_binarySort_242 rfl rfl ?_ ?_
    · refine r_iconst 250 0 dX15_binarySort_249 rfl rfl ?_
      refine r_to [0, 2, 3, 4] [(0, aR 100), (2, aI x2), (3, aI x3), (6, aI x6)] rfl ?_
      exact s_Tw_binarySort_b250 P W x2 x3 x6 0 ((G5 100 43) - 1) G5
    · refine r_iconst 246 1 dX15_binarySort_245 rfl rfl ?_
      refine r_goto 250 dX15_binarySort_246 rfl ?_
      refine r_to [0, 2, 3, 4] [(0, aR 100), (2, aI x2), (3, aI x3), (6, aI x6)] rfl ?_
      exact s_Tw_binarySort_b250 P W x2 x3 x6 1 ((G5 100 43) - 1) G5
theorem s_Tw_binarySort_b171 (P W : Int) (x1 : Int) (x2 : Int) (x3 : Int) (x6 : Int) (G : St) : SS (MTw_binarySort P W) some 171 [(0, aR 100), (1, aI x1), (2, aI x2), (3, aI x3), (6, aI x6)] [] G (Tw_binarySort_b171 x1 x2 x3 x6 G) := by
  refine r_aload_n 172 0 dX15_binarySort_171 rfl rfl rfl ?_
  refine r_callvV 175 (Mc := MTw_mustPublic P W) (o := 100) (as := []) (st := []) dX15_binarySort_172 rfl (c_Tw_mustPublic P W G) lkX15_589 (cmTw_mustPublic P W) rfl rfl rfl (fun _ => dsT_100 P W _) nn100 rfl (Nat.le_of_ble_eq_true rfl) (Nat.le_of_ble_eq_true rfl) (fun _ => rfl) rfl (fun z1 G2 => ?_)
  refine r_aload_n 176 0 dX15_binarySort_175 rfl rfl rfl ?_
  refine r_get 179 (aR 155) dX15_binarySort_176 fkX15_108 (fun _ => dsT_100 P W _) nn100 rfl rfl ?_
  refine r_iload_n 180 1 dX15_binarySort_179 rfl rfl rfl ?_
  refine r_aload_n 181 0 dX15_binarySort_180 rfl rfl rfl ?_
  refine r_get 184 (aR 146) dX15_binarySort_181 fkX15_87 (fun _ => dsT_100 P W _) nn100 rfl rfl ?_
  refine r_aload_n 185 0 dX15_binarySort_184 rfl rfl rfl ?_
  refine r_get 188 (aI (G2 100 43)) dX15_binarySort_185 fkX15_540 (fun _ => dsT_100 P W _) nn100 rfl rfl ?_
  refine r_iconst 189 1 dX15_binarySort_188 rfl rfl ?_
  refine r_isub 190 dX15_binarySort_189 rfl ?_
  refine r_iald 191 dX15_binarySort_190 (fun _ _ _ => dsT_146 P W _) (fun _ _ => nn146) rfl ?_
  refine r_iast 192 dX15_binarySort_191 (fun _ _ _ => dsT_155 P W _) (fun _ _ => nn155) rfl ?_
  refine ss_tk (fun G3 => ?_)
  exact s_Tw_binarySort_b192 P W x1 x2 x3 x6 G3
theorem s_Tw_binarySort_b140 (P W : Int) (x1 : Int) (x2 : Int) (x3 : Int) (x6 : Int) (s0 : Int) (G : St) : SS (MTw_binarySort P W) some 140 [(0, aR 100), (1, aI x1), (2, aI x2), (3, aI x3), (6, aI x6)] [aI s0] G (Tw_binarySort_b140 x1 x2 x3 x6 s0 G) := by
  refine r_istore 142 [(7, aI s0), (0, aR 100), (1, aI x1), (2, aI x2), (3, aI x3), (6, aI x6)] dX15_binarySort_140 rfl rfl rfl ?_
  refine r_iload 144 0 dX15_binarySort_142 rfl rfl ?_
  refine r_if_ne 159 147 dX15_binarySort_144 rfl rfl ?_ ?_
  · refine r_iload_n 160 3 dX15_binarySort_159 rfl rfl rfl ?_
    refine r_bipush 162 12 dX15_binarySort_160 rfl rfl ?_
    refine r_icmp_eq 171 165 dX15_binarySort_162 rfl rfl ?_ ?_
    · refine r_to [1, 2, 3, 4, 5] [(0, aR 100), (1, aI x1), (2, aI x2), (3, aI x3), (6, aI x6)] rfl ?_
      exact s_Tw_binarySort_b171 P W x1 x2 x3 x6 G
    · refine r_iload_n 166 3 dX15_binarySort_165 rfl rfl rfl ?_
      refine r_bipush 168 13 dX15_binarySort_166 rfl rfl ?_
      refine r_icmp_ne 192 171 dX15_binarySort_168 rfl rfl ?_ ?_
      · refine r_to [1, 2, 3, 4, 5] [(0, aR 100), (1, aI x1), (2, aI x2), (3, aI x3), (6, aI x6)] rfl ?_
        exact s_Tw_binarySort_b192 P W x1 x2 x3 x6 G
      · refine r_to [1, 2, 3, 4, 5] [(0, aR 100), (1, aI x1), (2, aI x2), (3, aI x3), (6, aI x6)] rfl ?_
        exact s_Tw_binarySort_b171 P W x1 x2 x3 x6 G
  · refine r_aload_n 148 1 dX15_binarySort_147 rfl rfl rfl ?_
    refine r_iconst 149 5 dX15_binarySort_148 rfl rfl ?_
    refine r_aload_n 150 1 dX15_binarySort_149 rfl rfl rfl ?_
    refine r_get 153 (aR 118) dX15_binarySort_150 fkX15_31 (fun _ => dsT_100 P W _) nn100 rfl rfl ?_
    refine r_iload_n 154 2 dX15_binarySort_153 rfl rfl rfl ?_
    refine r_iald 155 dX15_binarySort_154 (fun _ _ _ => dsT_118 P W _) (fun _ _ => nn118) rfl ?_
    refine r_callvV 158 (Mc := MTw_fail P W) (o := 100) (as := [aI 5, aI (G 118 x1)]) (st := []) dX15_binarySort_155 rfl (c_Tw_fail P W 5 (G 118 x1) G) lkX15_390 (cmTw_fail P W) rfl rfl rfl (fun _ => dsT_100 P W _) nn100 rfl (Nat.le_of_ble_eq_true rfl) (Nat.le_of_ble_eq_true rfl) (fun _ => rfl) rfl (fun z8 G9 => ?_)
    exact r_return dX15_binarySort_158 rfl
theorem s_Tw_binarySort_b81 (P W : Int) (x1 : Int) (x2 : Int) (x3 : Int) (x4 : Int) (x5 : Int) (s0 : Int) (G : St) : SS (MTw_binarySort P W) some 81 [(0, aR 100), (1, aI x1), (2, aI x2), (3, aI x3), (4, aI x4), (5, aI x5)] [aI s0] G (Tw_binarySort_b81 x1 x2 x3 x4 x5 s0 G) := by
  refine r_istore 83 [(6, aI s0), (0, aR 100), (1, aI x1), (2, aI x2), (3, aI x3), (4, aI x4), (5, aI x5)] dX15_binarySort_81 rfl rfl rfl ?_
  refine r_iload 85 6 dX15_binarySort_83 rfl rfl ?_
  refine SS.phi (fun VV_ => Tw_binarySort_b140 x1 x2 x3 s0 VV_ G) ?_
  refine r_if_eq 102 88 dX15_binarySort_85 rfl rfl ?_ ?_
  · refine r_iload 104 0 dX15_binarySort_102 rfl rfl ?_
    refine SS.phi (fun VV_ => Tw_binarySort_b140 x1 x2 x3 s0 VV_ G) ?_
    refine r_if_eq 126 107 dX15_binarySort_104 rfl rfl ?_ ?_
    · refine r_iload_n 127 4 dX15_binarySort_126 rfl rfl rfl ?_
      refine SS.phi (fun VV_ => Tw_binarySort_b140 x1 x2 x3 s0 VV_ G) ?_
      refine r_if_ne 139 130 dX15_binarySort_127 rfl rfl ?_ ?_
      · refine r_iconst 140 0 dX15_binarySort_139 rfl rfl ?_
        refine r_to [1, 2, 3, 4, 0] [(0, aR 100), (1, aI x1), (2, aI x2), (3, aI x3), (6, aI s0)] rfl ?_
        exact s_Tw_binarySort_b140 P W x1 x2 x3 s0 0 G
      · refine r_iload 132 5 dX15_binarySort_130 rfl rfl ?_
        refine SS.phi (fun VV_ => Tw_binarySort_b140 x1 x2 x3 s0 VV_ G) ?_
        refine r_if_ne 139 135 dX15_binarySort_132 rfl rfl ?_ ?_
        · refine r_iconst 140 0 dX15_binarySort_139 rfl rfl ?_
          refine r_to [1, 2, 3, 4, 0] [(0, aR 100), (1, aI x1), (2, aI x2), (3, aI x3), (6, aI s0)] rfl ?_
          exact s_Tw_binarySort_b140 P W x1 x2 x3 s0 0 G
        · refine r_iconst 136 1 dX15_binarySort_135 rfl rfl ?_
          refine r_goto 140 dX15_binarySort_136 rfl ?_
          refine r_to [1, 2, 3, 4, 0] [(0, aR 100), (1, aI x1), (2, aI x2), (3, aI x3), (6, aI s0)] rfl ?_
          exact s_Tw_binarySort_b140 P W x1 x2 x3 s0 1 G
    · refine r_iload_n 108 4 dX15_binarySort_107 rfl rfl rfl ?_
      refine r_iconst 109 1 dX15_binarySort_108 rfl rfl ?_
      refine SS.phi (fun VV_ => Tw_binarySort_b140 x1 x2 x3 s0 VV_ G) ?_
      refine r_icmp_ne 122 112 dX15_binarySort_109 rfl rfl ?_ ?_
      · refine r_iconst 123 0 dX15_binarySort_122 rfl rfl ?_
        refine r_goto 140 dX15_binarySort_123 rfl ?_
        refine r_to [1, 2, 3, 4, 0] [(0, aR 100), (1, aI x1), (2, aI x2), (3, aI x3), (6, aI s0)] rfl ?_
        exact s_Tw_binarySort_b140 P W x1 x2 x3 s0 0 G
      · refine r_iload 114 5 dX15_binarySort_112 rfl rfl ?_
        refine r_iconst 115 1 dX15_binarySort_114 rfl rfl ?_
        refine SS.phi (fun VV_ => Tw_binarySort_b140 x1 x2 x3 s0 VV_ G) ?_
        refine r_icmp_ne 122 118 dX15_binarySort_115 rfl rfl ?_ ?_
        · refine r_iconst 123 0 dX15_binarySort_122 rfl rfl ?_
          refine r_goto 140 dX15_binarySort_123 rfl ?_
          refine r_to [1, 2, 3, 4, 0] [(0, aR 100), (1, aI x1), (2, aI x2), (3, aI x3), (6, aI s0)] rfl ?_
          exact s_Tw_binarySort_b140 P W x1 x2 x3 s0 0 G
        · refine r_iconst 119 1 dX15_binarySort_118 rfl rfl ?_
          refine r_goto 140 dX15_binarySort_119 rfl ?_
          refine r_to [1, 2, 3, 4, 0] [(0, aR 100), (1, aI x1), (2, aI x2), (3, aI x3), (6, aI s0)] rfl ?_
          exact s_Tw_binarySort_b140 P W x1 x2 x3 s0 1 G
  · refine r_iload_n 89 4 dX15_binarySort_88 rfl rfl rfl ?_
    refine r_iload 91 5 dX15_binarySort_89 rfl rfl ?_
    refine SS.phi (fun VV_ => Tw_binarySort_b140 x1 x2 x3 s0 VV_ G) ?_
    refine r_icmp_ne 98 94 dX15_binarySort_91 rfl rfl ?_ ?_
    · refine r_iconst 99 0 dX15_binarySort_98 rfl rfl ?_
      refine r_goto 140 dX15_binarySort_99 rfl ?_
      refine r_to [1, 2, 3, 4, 0] [(0, aR 100), (1, aI x1), (2, aI x2), (3, aI x3), (6, aI s0)] rfl ?_
      exact s_Tw_binarySort_b140 P W x1 x2 x3 s0 0 G
    · refine r_iconst 95 1 dX15_binarySort_94 rfl rfl ?_
      refine r_goto 140 dX15_binarySort_95 rfl ?_
      refine r_to [1, 2, 3, 4, 0] [(0, aR 100), (1, aI x1), (2, aI x2), (3, aI x3), (6, aI s0)] rfl ?_
      exact s_Tw_binarySort_b140 P W x1 x2 x3 s0 1 G
theorem s_Tw_binarySort_b64 (P W : Int) (x1 : Int) (x2 : Int) (x3 : Int) (x4 : Int) (s0 : Int) (G : St) : SS (MTw_binarySort P W) some 64 [(0, aR 100), (1, aI x1), (2, aI x2), (3, aI x3), (4, aI x4)] [aI s0] G (Tw_binarySort_b64 x1 x2 x3 x4 s0 G) := by
  refine r_istore 66 [(5, aI s0), (0, aR 100), (1, aI x1), (2, aI x2), (3, aI x3), (4, aI x4)] dX15_binarySort_64 rfl rfl rfl ?_
  refine r_iload_n 67 3 dX15_binarySort_66 rfl rfl rfl ?_
  refine r_iconst 68 1 dX15_binarySort_67 rfl rfl ?_
  refine SS.phi (fun VV_ => Tw_binarySort_b81 x1 x2 x3 x4 s0 VV_ G) ?_
  refine r_icmp_eq 76 71 dX15_binarySort_68 rfl rfl ?_ ?_
  · refine r_iconst 77 1 dX15_binarySort_76 rfl rfl ?_
    refine r_goto 81 dX15_binarySort_77 rfl ?_
    refine r_to [1, 2, 3, 4, 5, 0] [(0, aR 100), (1, aI x1), (2, aI x2), (3, aI x3), (4, aI x4), (5, aI s0)] rfl ?_
    exact s_Tw_binarySort_b81 P W x1 x2 x3 x4 s0 1 G
  · refine r_iload_n 72 3 dX15_binarySort_71 rfl rfl rfl ?_
    refine r_iconst 73 2 dX15_binarySort_72 rfl rfl ?_
    refine SS.phi (fun VV_ => Tw_binarySort_b81 x1 x2 x3 x4 s0 VV_ G) ?_
    refine r_icmp_ne 80 76 dX15_binarySort_73 rfl rfl ?_ ?_
    · refine r_iconst 81 0 dX15_binarySort_80 rfl rfl ?_
      refine r_to [1, 2, 3, 4, 5, 0] [(0, aR 100), (1, aI x1), (2, aI x2), (3, aI x3), (4, aI x4), (5, aI s0)] rfl ?_
      exact s_Tw_binarySort_b81 P W x1 x2 x3 x4 s0 0 G
    · refine r_iconst 77 1 dX15_binarySort_76 rfl rfl ?_
      refine r_goto 81 dX15_binarySort_77 rfl ?_
      refine r_to [1, 2, 3, 4, 5, 0] [(0, aR 100), (1, aI x1), (2, aI x2), (3, aI x3), (4, aI x4), (5, aI s0)] rfl ?_
      exact s_Tw_binarySort_b81 P W x1 x2 x3 x4 s0 1 G
theorem s_Tw_binarySort (P W : Int) (x1 : Int) (G : St) : SS (MTw_binarySort P W) some 0 [(0, aR 100), (1, aI x1)] [] G (Tw_binarySort x1 G) := by
  refine r_aload_n 1 0 dX15_binarySort_0 rfl rfl rfl ?_
  refine r_get 4 (aR 116) dX15_binarySort_1 fkX15_25 (fun _ => dsT_100 P W _) nn100 rfl rfl ?_
  refine r_iload_n 5 1 dX15_binarySort_4 rfl rfl rfl ?_
  refine r_iald 6 dX15_binarySort_5 (fun _ _ _ => dsT_116 P W _) (fun _ _ => nn116) rfl ?_
  refine r_istore_n 7 [(2, aI (G 116 x1)), (0, aR 100), (1, aI x1)] dX15_binarySort_6 rfl rfl rfl rfl ?_
  refine r_aload_n 8 1 dX15_binarySort_7 rfl rfl rfl ?_
  refine r_get 11 (aR 145) dX15_binarySort_8 fkX15_84 (fun _ => dsT_100 P W _) nn100 rfl rfl ?_
  refine r_aload_n 12 1 dX15_binarySort_11 rfl rfl rfl ?_
  refine r_get 15 (aI (G 100 43)) dX15_binarySort_12 fkX15_540 (fun _ => dsT_100 P W _) nn100 rfl rfl ?_
  refine r_iconst 16 2 dX15_binarySort_15 rfl rfl ?_
  refine r_isub 17 dX15_binarySort_16 rfl ?_
  refine r_iald 18 dX15_binarySort_17 (fun _ _ _ => dsT_145 P W _) (fun _ _ => nn145) rfl ?_
  refine r_istore_n 19 [(3, aI (G 145 ((G 100 43) - 2))), (2, aI (G 116 x1)), (0, aR 100), (1, aI x1)] dX15_binarySort_18 rfl rfl rfl rfl ?_
  refine r_aload_n 20 2 dX15_binarySort_19 rfl rfl rfl ?_
  refine r_get 23 (aR 145) dX15_binarySort_20 fkX15_84 (fun _ => dsT_100 P W _) nn100 rfl rfl ?_
  refine r_aload_n 24 2 dX15_binarySort_23 rfl rfl rfl ?_
  refine r_get 27 (aI (G 100 43)) dX15_binarySort_24 fkX15_540 (fun _ => dsT_100 P W _) nn100 rfl rfl ?_
  refine r_iconst 28 1 dX15_binarySort_27 rfl rfl ?_
  refine r_isub 29 dX15_binarySort_28 rfl ?_
  refine r_iald 30 dX15_binarySort_29 (fun _ _ _ => dsT_145 P W _) (fun _ _ => nn145) rfl ?_
  refine r_istore 32 [(4, aI (G 145 ((G 100 43) - 1))), (3, aI (G 145 ((G 100 43) - 2))), (2, aI (G 116 x1)), (0, aR 100), (1, aI x1)] dX15_binarySort_30 rfl rfl rfl ?_
  refine r_iload_n 33 2 dX15_binarySort_32 rfl rfl rfl ?_
  refine r_iconst 34 3 dX15_binarySort_33 rfl rfl ?_
  refine SS.phi (fun VV_ => Tw_binarySort_b64 x1 (G 116 x1) (G 145 ((G 100 43) - 2)) (G 145 ((G 100 43) - 1)) VV_ G) ?_
  refine r_icmp_eq 59 37 dX15_binarySort_34 rfl rfl ?_ ?_
  · refine r_iconst 60 1 dX15_binarySort_59 rfl rfl ?_
    refine r_goto 64 dX15_binarySort_60 rfl ?_
    refine r_to [3, 4, 2, 1, 0] [(0, aR 100), (1, aI x1), (2, aI (G 116 x1)), (3, aI (G 145 ((G 100 43) - 2))), (4, aI (G 145 ((G 100 43) - 1)))] rfl ?_
    exact s_Tw_binarySort_b64 P W x1 (G 116 x1) (G 145 ((G 100 43) - 2)) (G 145 ((G 100 43) - 1)) 1 G
  · refine r_iload_n 38 2 dX15_binarySort_37 rfl rfl rfl ?_
    refine r_iconst 39 4 dX15_binarySort_38 rfl rfl ?_
    refine SS.phi (fun VV_ => Tw_binarySort_b64 x1 (G 116 x1) (G 145 ((G 100 43) - 2)) (G 145 ((G 100 43) - 1)) VV_ G) ?_
    refine r_icmp_eq 59 42 dX15_binarySort_39 rfl rfl ?_ ?_
    · refine r_iconst 60 1 dX15_binarySort_59 rfl rfl ?_
      refine r_goto 64 dX15_binarySort_60 rfl ?_
      refine r_to [3, 4, 2, 1, 0] [(0, aR 100), (1, aI x1), (2, aI (G 116 x1)), (3, aI (G 145 ((G 100 43) - 2))), (4, aI (G 145 ((G 100 43) - 1)))] rfl ?_
      exact s_Tw_binarySort_b64 P W x1 (G 116 x1) (G 145 ((G 100 43) - 2)) (G 145 ((G 100 43) - 1)) 1 G
    · refine r_iload_n 43 2 dX15_binarySort_42 rfl rfl rfl ?_
      refine r_iconst 44 5 dX15_binarySort_43 rfl rfl ?_
      refine SS.phi (fun VV_ => Tw_binarySort_b64 x1 (G 116 x1) (G 145 ((G 100 43) - 2)) (G 145 ((G 100 43) - 1)) VV_ G) ?_
      refine r_icmp_eq 59 47 dX15_binarySort_44 rfl rfl ?_ ?_
      · refine r_iconst 60 1 dX15_binarySort_59 rfl rfl ?_
        refine r_goto 64 dX15_binarySort_60 rfl ?_
        refine r_to [3, 4, 2, 1, 0] [(0, aR 100), (1, aI x1), (2, aI (G 116 x1)), (3, aI (G 145 ((G 100 43) - 2))), (4, aI (G 145 ((G 100 43) - 1)))] rfl ?_
        exact s_Tw_binarySort_b64 P W x1 (G 116 x1) (G 145 ((G 100 43) - 2)) (G 145 ((G 100 43) - 1)) 1 G
      · refine r_iload_n 48 2 dX15_binarySort_47 rfl rfl rfl ?_
        refine r_bipush 50 6 dX15_binarySort_48 rfl rfl ?_
        refine SS.phi (fun VV_ => Tw_binarySort_b64 x1 (G 116 x1) (G 145 ((G 100 43) - 2)) (G 145 ((G 100 43) - 1)) VV_ G) ?_
        refine r_icmp_eq 59 53 dX15_binarySort_50 rfl rfl ?_ ?_
        · refine r_iconst 60 1 dX15_binarySort_59 rfl rfl ?_
          refine r_goto 64 dX15_binarySort_60 rfl ?_
          refine r_to [3, 4, 2, 1, 0] [(0, aR 100), (1, aI x1), (2, aI (G 116 x1)), (3, aI (G 145 ((G 100 43) - 2))), (4, aI (G 145 ((G 100 43) - 1)))] rfl ?_
          exact s_Tw_binarySort_b64 P W x1 (G 116 x1) (G 145 ((G 100 43) - 2)) (G 145 ((G 100 43) - 1)) 1 G
        · refine r_iload_n 54 2 dX15_binarySort_53 rfl rfl rfl ?_
          refine r_bipush 56 7 dX15_binarySort_54 rfl rfl ?_
          refine SS.phi (fun VV_ => Tw_binarySort_b64 x1 (G 116 x1) (G 145 ((G 100 43) - 2)) (G 145 ((G 100 43) - 1)) VV_ G) ?_
          refine r_icmp_ne 63 59 dX15_binarySort_56 rfl rfl ?_ ?_
          · refine r_iconst 64 0 dX15_binarySort_63 rfl rfl ?_
            refine r_to [3, 4, 2, 1, 0] [(0, aR 100), (1, aI x1), (2, aI (G 116 x1)), (3, aI (G 145 ((G 100 43) - 2))), (4, aI (G 145 ((G 100 43) - 1)))] rfl ?_
            exact s_Tw_binarySort_b64 P W x1 (G 116 x1) (G 145 ((G 100 43) - 2)) (G 145 ((G 100 43) - 1)) 0 G
          · refine r_iconst 60 1 dX15_binarySort_59 rfl rfl ?_
            refine r_goto 64 dX15_binarySort_60 rfl ?_
            refine r_to [3, 4, 2, 1, 0] [(0, aR 100), (1, aI x1), (2, aI (G 116 x1)), (3, aI (G 145 ((G 100 43) - 2))), (4, aI (G 145 ((G 100 43) - 1)))] rfl ?_
            exact s_Tw_binarySort_b64 P W x1 (G 116 x1) (G 145 ((G 100 43) - 2)) (G 145 ((G 100 43) - 1)) 1 G
theorem c_Tw_binarySort (P W : Int) (x1 : Int) (G : St) : MG (MTw_binarySort P W) [aR 100, aI x1] G (Tw_binarySort x1 G) := MG.of plX15 (Nat.le_of_ble_eq_true rfl) (s_Tw_binarySort P W x1 G)
theorem s_Tw_must (P W : Int) (x1 : Int) (G : St) : SS (MTw_must P W) some 0 [(0, aR 100), (1, aI x1)] [] G (Tw_must x1 G) := by
  refine r_aload_n 1 0 dX15_must_0 rfl rfl rfl ?_
  refine r_get 4 (aI (G 100 7)) dX15_must_1 fkX15_323 (fun _ => dsT_100 P W _) nn100 rfl rfl ?_
  refine r_if_ne 38 7 dX15_must_4 rfl rfl ?_ ?_
  · exact r_return dX15_must_38 rfl
  · refine r_aload_n 8 0 dX15_must_7 rfl rfl rfl ?_
    refine r_get 11 (aR 145) dX15_must_8 fkX15_84 (fun _ => dsT_100 P W _) nn100 rfl rfl ?_
    refine r_aload_n 12 0 dX15_must_11 rfl rfl rfl ?_
    refine r_get 15 (aI (G 100 43)) dX15_must_12 fkX15_540 (fun _ => dsT_100 P W _) nn100 rfl rfl ?_
    refine r_iconst 16 1 dX15_must_15 rfl rfl ?_
    refine r_isub 17 dX15_must_16 rfl ?_
    refine r_iald 18 dX15_must_17 (fun _ _ _ => dsT_145 P W _) (fun _ _ => nn145) rfl ?_
    refine r_iload_n 19 1 dX15_must_18 rfl rfl rfl ?_
    refine r_icmp_eq 38 22 dX15_must_19 rfl rfl ?_ ?_
    · exact r_return dX15_must_38 rfl
    · refine r_aload_n 23 0 dX15_must_22 rfl rfl rfl ?_
      refine r_iconst 24 5 dX15_must_23 rfl rfl ?_
      refine r_aload_n 25 0 dX15_must_24 rfl rfl rfl ?_
      refine r_get 28 (aR 146) dX15_must_25 fkX15_87 (fun _ => dsT_100 P W _) nn100 rfl rfl ?_
      refine r_aload_n 29 0 dX15_must_28 rfl rfl rfl ?_
      refine r_get 32 (aI (G 100 43)) dX15_must_29 fkX15_540 (fun _ => dsT_100 P W _) nn100 rfl rfl ?_
      refine r_iconst 33 1 dX15_must_32 rfl rfl ?_
      refine r_isub 34 dX15_must_33 rfl ?_
      refine r_iald 35 dX15_must_34 (fun _ _ _ => dsT_146 P W _) (fun _ _ => nn146) rfl ?_
      refine r_callvV 38 (Mc := MTw_fail P W) (o := 100) (as := [aI 5, aI (G 146 ((G 100 43) - 1))]) (st := []) dX15_must_35 rfl (c_Tw_fail P W 5 (G 146 ((G 100 43) - 1)) G) lkX15_390 (cmTw_fail P W) rfl rfl rfl (fun _ => dsT_100 P W _) nn100 rfl (Nat.le_of_ble_eq_true rfl) (Nat.le_of_ble_eq_true rfl) (fun _ => rfl) rfl (fun z1 G2 => ?_)
      exact r_return dX15_must_38 rfl
theorem c_Tw_must (P W : Int) (x1 : Int) (G : St) : MG (MTw_must P W) [aR 100, aI x1] G (Tw_must x1 G) := MG.of plX15 (Nat.le_of_ble_eq_true rfl) (s_Tw_must P W x1 G)
theorem s_Tw_bitSort (P W : Int) (x1 : Int) (G : St) : SS (MTw_bitSort P W) some 0 [(0, aR 100), (1, aI x1)] [] G (Tw_bitSort x1 G) := by
  refine r_aload_n 1 0 dX15_bitSort_0 rfl rfl rfl ?_
  refine r_iconst 2 0 dX15_bitSort_1 rfl rfl ?_
  refine r_callvV 5 (Mc := MTw_must P W) (o := 100) (as := [aI 0]) (st := []) dX15_bitSort_2 rfl (c_Tw_must P W 0 G) lkX15_574 (cmTw_must P W) rfl rfl rfl (fun _ => dsT_100 P W _) nn100 rfl (Nat.le_of_ble_eq_true rfl) (Nat.le_of_ble_eq_true rfl) (fun _ => rfl) rfl (fun z1 G2 => ?_)
  refine r_aload_n 6 0 dX15_bitSort_5 rfl rfl rfl ?_
  refine r_callvV 9 (Mc := MTw_mustPublic P W) (o := 100) (as := []) (st := []) dX15_bitSort_6 rfl (c_Tw_mustPublic P W G2) lkX15_589 (cmTw_mustPublic P W) rfl rfl rfl (fun _ => dsT_100 P W _) nn100 rfl (Nat.le_of_ble_eq_true rfl) (Nat.le_of_ble_eq_true rfl) (fun _ => rfl) rfl (fun z3 G4 => ?_)
  refine r_aload_n 10 0 dX15_bitSort_9 rfl rfl rfl ?_
  refine r_get 13 (aI (G4 100 7)) dX15_bitSort_10 fkX15_323 (fun _ => dsT_100 P W _) nn100 rfl rfl ?_
  refine r_if_le 17 16 dX15_bitSort_13 rfl rfl ?_ ?_
  · refine r_aload_n 18 0 dX15_bitSort_17 rfl rfl rfl ?_
    refine r_get 21 (aR 155) dX15_bitSort_18 fkX15_108 (fun _ => dsT_100 P W _) nn100 rfl rfl ?_
    refine r_iload_n 22 1 dX15_bitSort_21 rfl rfl rfl ?_
    refine r_aload_n 23 0 dX15_bitSort_22 rfl rfl rfl ?_
    refine r_get 26 (aR 146) dX15_bitSort_23 fkX15_87 (fun _ => dsT_100 P W _) nn100 rfl rfl ?_
    refine r_aload_n 27 0 dX15_bitSort_26 rfl rfl rfl ?_
    refine r_get 30 (aI (G4 100 43)) dX15_bitSort_27 fkX15_540 (fun _ => dsT_100 P W _) nn100 rfl rfl ?_
    refine r_iconst 31 1 dX15_bitSort_30 rfl rfl ?_
    refine r_isub 32 dX15_bitSort_31 rfl ?_
    refine r_iald 33 dX15_bitSort_32 (fun _ _ _ => dsT_146 P W _) (fun _ _ => nn146) rfl ?_
    refine r_iast 34 dX15_bitSort_33 (fun _ _ _ => dsT_155 P W _) (fun _ _ => nn155) rfl ?_
    refine ss_tk (fun G5 => ?_)
    refine r_aload_n 35 0 dX15_bitSort_34 rfl rfl rfl ?_
    refine r_dup 36 dX15_bitSort_35 rfl rfl ?_
    refine r_get 39 (aI (G5 100 43)) dX15_bitSort_36 fkX15_540 (fun _ => dsT_100 P W _) nn100 rfl rfl ?_
    refine r_iconst 40 1 dX15_bitSort_39 rfl rfl ?_
    refine r_isub 41 dX15_bitSort_40 rfl ?_
    refine r_putI 44 dX15_bitSort_41 fkX15_540 (fun _ => dsT_100 P W _) nn100 rfl rfl ?_
    refine ss_tk (fun G6 => ?_)
    refine r_aload_n 45 0 dX15_bitSort_44 rfl rfl rfl ?_
    refine r_get 48 (aR 145) dX15_bitSort_45 fkX15_84 (fun _ => dsT_100 P W _) nn100 rfl rfl ?_
    refine r_aload_n 49 0 dX15_bitSort_48 rfl rfl rfl ?_
    refine r_get 52 (aI (G6 100 43)) dX15_bitSort_49 fkX15_540 (fun _ => dsT_100 P W _) nn100 rfl rfl ?_
    refine r_iconst 53 1 dX15_bitSort_52 rfl rfl ?_
    refine r_isub 54 dX15_bitSort_53 rfl ?_
    refine r_iconst 55 1 dX15_bitSort_54 rfl rfl ?_
    refine r_iast 56 dX15_bitSort_55 (fun _ _ _ => dsT_145 P W _) (fun _ _ => nn145) rfl ?_
    refine ss_tk (fun G7 => ?_)
    refine r_aload_n 57 0 dX15_bitSort_56 rfl rfl rfl ?_
    refine r_get 60 (aR 146) dX15_bitSort_57 fkX15_87 (fun _ => dsT_100 P W _) nn100 rfl rfl ?_
    refine r_aload_n 61 0 dX15_bitSort_60 rfl rfl rfl ?_
    refine r_get 64 (aI (G7 100 43)) dX15_bitSort_61 fkX15_540 (fun _ => dsT_100 P W _) nn100 rfl rfl ?_
    refine r_iconst 65 1 dX15_bitSort_64 rfl rfl ?_
    refine r_isub 66 dX15_bitSort_65 rfl ?_
    refine r_aload_n 67 0 dX15_bitSort_66 rfl rfl rfl ?_
    refine r_get 70 (aR 118) dX15_bitSort_67 fkX15_31 (fun _ => dsT_100 P W _) nn100 rfl rfl ?_
    refine r_iload_n 71 1 dX15_bitSort_70 rfl rfl rfl ?_
    refine r_iald 72 dX15_bitSort_71 (fun _ _ _ => dsT_118 P W _) (fun _ _ => nn118) rfl ?_
    refine r_iast 73 dX15_bitSort_72 (fun _ _ _ => dsT_146 P W _) (fun _ _ => nn146) rfl ?_
    refine ss_tk (fun G8 => ?_)
    exact r_return dX15_bitSort_73 rfl
  · exact r_return dX15_bitSort_16 rfl
theorem c_Tw_bitSort (P W : Int) (x1 : Int) (G : St) : MG (MTw_bitSort P W) [aR 100, aI x1] G (Tw_bitSort x1 G) := MG.of plX15 (Nat.le_of_ble_eq_true rfl) (s_Tw_bitSort P W x1 G)
theorem s_Tw_pile (P W : Int) (x1 : Int) (x2 : Int) (x3 : Int) (G : St) : SS (MTw_pile P W) some 0 [(0, aR 100), (1, aI x1), (2, aI x2), (3, aI x3)] [] G (Tw_pile x1 x2 x3 G) := by
  refine r_aload_n 1 0 dX15_pile_0 rfl rfl rfl ?_
  refine r_get 4 (aR 145) dX15_pile_1 fkX15_84 (fun _ => dsT_100 P W _) nn100 rfl rfl ?_
  refine r_aload_n 5 0 dX15_pile_4 rfl rfl rfl ?_
  refine r_get 8 (aI (G 100 43)) dX15_pile_5 fkX15_540 (fun _ => dsT_100 P W _) nn100 rfl rfl ?_
  refine r_iload_n 9 1 dX15_pile_8 rfl rfl rfl ?_
  refine r_iast 10 dX15_pile_9 (fun _ _ _ => dsT_145 P W _) (fun _ _ => nn145) rfl ?_
  refine ss_tk (fun G1 => ?_)
  refine r_aload_n 11 0 dX15_pile_10 rfl rfl rfl ?_
  refine r_get 14 (aR 146) dX15_pile_11 fkX15_87 (fun _ => dsT_100 P W _) nn100 rfl rfl ?_
  refine r_aload_n 15 0 dX15_pile_14 rfl rfl rfl ?_
  refine r_get 18 (aI (G1 100 43)) dX15_pile_15 fkX15_540 (fun _ => dsT_100 P W _) nn100 rfl rfl ?_
  refine r_iload_n 19 2 dX15_pile_18 rfl rfl rfl ?_
  refine r_iast 20 dX15_pile_19 (fun _ _ _ => dsT_146 P W _) (fun _ _ => nn146) rfl ?_
  refine ss_tk (fun G2 => ?_)
  refine r_aload_n 21 0 dX15_pile_20 rfl rfl rfl ?_
  refine r_get 24 (aR 147) dX15_pile_21 fkX15_90 (fun _ => dsT_100 P W _) nn100 rfl rfl ?_
  refine r_aload_n 25 0 dX15_pile_24 rfl rfl rfl ?_
  refine r_get 28 (aI (G2 100 43)) dX15_pile_25 fkX15_540 (fun _ => dsT_100 P W _) nn100 rfl rfl ?_
  refine r_iload_n 29 3 dX15_pile_28 rfl rfl rfl ?_
  refine r_zast 30 dX15_pile_29 (fun _ _ _ => dsT_147 P W _) (fun _ _ => nn147) rfl ?_
  refine ss_tk (fun G3 => ?_)
  refine r_aload_n 31 0 dX15_pile_30 rfl rfl rfl ?_
  refine r_dup 32 dX15_pile_31 rfl rfl ?_
  refine r_get 35 (aI (G3 100 43)) dX15_pile_32 fkX15_540 (fun _ => dsT_100 P W _) nn100 rfl rfl ?_
  refine r_iconst 36 1 dX15_pile_35 rfl rfl ?_
  refine r_iadd 37 dX15_pile_36 rfl ?_
  refine r_putI 40 dX15_pile_37 fkX15_540 (fun _ => dsT_100 P W _) nn100 rfl rfl ?_
  refine ss_tk (fun G4 => ?_)
  exact r_return dX15_pile_40 rfl
theorem c_Tw_pile (P W : Int) (x1 : Int) (x2 : Int) (x3 : Int) (G : St) : MG (MTw_pile P W) [aR 100, aI x1, aI x2, aI x3] G (Tw_pile x1 x2 x3 G) := MG.of plX15 (Nat.le_of_ble_eq_true rfl) (s_Tw_pile P W x1 x2 x3 G)
theorem s_Tw_refer (P W : Int) (x1 : Int) (x2 : Int) (G : St) : SS (MTw_refer P W) some 0 [(0, aR 100), (1, aI x1), (2, aI x2)] [] G (Tw_refer x1 x2 G) := by
  refine r_aload_n 1 0 dX15_refer_0 rfl rfl rfl ?_
  refine r_get 4 (aR 151) dX15_refer_1 fkX15_96 (fun _ => dsT_100 P W _) nn100 rfl rfl ?_
  refine r_iload_n 5 1 dX15_refer_4 rfl rfl rfl ?_
  refine r_aload_n 6 0 dX15_refer_5 rfl rfl rfl ?_
  refine r_get 9 (aR 137) dX15_refer_6 fkX15_62 (fun _ => dsT_100 P W _) nn100 rfl rfl ?_
  refine r_iload_n 10 2 dX15_refer_9 rfl rfl rfl ?_
  refine r_iald 11 dX15_refer_10 (fun _ _ _ => dsT_137 P W _) (fun _ _ => nn137) rfl ?_
  refine r_iast 12 dX15_refer_11 (fun _ _ _ => dsT_151 P W _) (fun _ _ => nn151) rfl ?_
  refine ss_tk (fun G1 => ?_)
  refine r_aload_n 13 0 dX15_refer_12 rfl rfl rfl ?_
  refine r_get 16 (aR 152) dX15_refer_13 fkX15_99 (fun _ => dsT_100 P W _) nn100 rfl rfl ?_
  refine r_iload_n 17 1 dX15_refer_16 rfl rfl rfl ?_
  refine r_aload_n 18 0 dX15_refer_17 rfl rfl rfl ?_
  refine r_get 21 (aR 140) dX15_refer_18 fkX15_71 (fun _ => dsT_100 P W _) nn100 rfl rfl ?_
  refine r_iload_n 22 2 dX15_refer_21 rfl rfl rfl ?_
  refine r_iald 23 dX15_refer_22 (fun _ _ _ => dsT_140 P W _) (fun _ _ => nn140) rfl ?_
  refine r_iast 24 dX15_refer_23 (fun _ _ _ => dsT_152 P W _) (fun _ _ => nn152) rfl ?_
  refine ss_tk (fun G2 => ?_)
  refine r_aload_n 25 0 dX15_refer_24 rfl rfl rfl ?_
  refine r_get 28 (aR 153) dX15_refer_25 fkX15_102 (fun _ => dsT_100 P W _) nn100 rfl rfl ?_
  refine r_iload_n 29 1 dX15_refer_28 rfl rfl rfl ?_
  refine r_aload_n 30 0 dX15_refer_29 rfl rfl rfl ?_
  refine r_get 33 (aR 139) dX15_refer_30 fkX15_68 (fun _ => dsT_100 P W _) nn100 rfl rfl ?_
  refine r_iload_n 34 2 dX15_refer_33 rfl rfl rfl ?_
  refine r_iald 35 dX15_refer_34 (fun _ _ _ => dsT_139 P W _) (fun _ _ => nn139) rfl ?_
  refine r_iast 36 dX15_refer_35 (fun _ _ _ => dsT_153 P W _) (fun _ _ => nn153) rfl ?_
  refine ss_tk (fun G3 => ?_)
  refine r_aload_n 37 0 dX15_refer_36 rfl rfl rfl ?_
  refine r_get 40 (aR 154) dX15_refer_37 fkX15_105 (fun _ => dsT_100 P W _) nn100 rfl rfl ?_
  refine r_iload_n 41 1 dX15_refer_40 rfl rfl rfl ?_
  refine r_aload_n 42 0 dX15_refer_41 rfl rfl rfl ?_
  refine r_get 45 (aR 138) dX15_refer_42 fkX15_65 (fun _ => dsT_100 P W _) nn100 rfl rfl ?_
  refine r_iload_n 46 2 dX15_refer_45 rfl rfl rfl ?_
  refine r_iald 47 dX15_refer_46 (fun _ _ _ => dsT_138 P W _) (fun _ _ => nn138) rfl ?_
  refine r_iast 48 dX15_refer_47 (fun _ _ _ => dsT_154 P W _) (fun _ _ => nn154) rfl ?_
  refine ss_tk (fun G4 => ?_)
  exact r_return dX15_refer_48 rfl
theorem c_Tw_refer (P W : Int) (x1 : Int) (x2 : Int) (G : St) : MG (MTw_refer P W) [aR 100, aI x1, aI x2] G (Tw_refer x1 x2 G) := MG.of plX15 (Nat.le_of_ble_eq_true rfl) (s_Tw_refer P W x1 x2 G)
theorem s_Tw_selectSort_b40 (P W : Int) (x1 : Int) (G : St) : SS (MTw_selectSort P W) some 40 [(0, aR 100), (1, aI x1)] [] G (Tw_selectSort_b40 x1 G) := by
  refine r_aload_n 41 0 dX15_selectSort_40 rfl rfl rfl ?_
  refine r_iconst 42 5 dX15_selectSort_41 rfl rfl ?_
  refine r_aload_n 43 0 dX15_selectSort_42 rfl rfl rfl ?_
  refine r_get 46 (aR 118) dX15_selectSort_43 fkX15_31 (fun _ => dsT_100 P W _) nn100 rfl rfl ?_
  refine r_iload_n 47 1 dX15_selectSort_46 rfl rfl rfl ?_
  refine r_iald 48 dX15_selectSort_47 (fun _ _ _ => dsT_118 P W _) (fun _ _ => nn118) rfl ?_
  refine r_callvV 51 (Mc := MTw_fail P W) (o := 100) (as := [aI 5, aI (G 118 x1)]) (st := []) dX15_selectSort_48 rfl (c_Tw_fail P W 5 (G 118 x1) G) lkX15_390 (cmTw_fail P W) rfl rfl rfl (fun _ => dsT_100 P W _) nn100 rfl (Nat.le_of_ble_eq_true rfl) (Nat.le_of_ble_eq_true rfl) (fun _ => rfl) rfl (fun z1 G2 => ?_)
  exact r_return dX15_selectSort_51 rfl
theorem s_Tw_selectSort_b99 (P W : Int) (x1 : Int) (s0 : Int) (G : St) : SS (MTw_selectSort P W) some 99 [(0, aR 100), (1, aI x1)] [aI s0] G (Tw_selectSort_b99 x1 s0 G) := by
  refine r_istore_n 100 [(2, aI s0), (0, aR 100), (1, aI x1)] dX15_selectSort_99 rfl rfl rfl rfl ?_
  refine r_aload_n 101 1 dX15_selectSort_100 rfl rfl rfl ?_
  refine r_dup 102 dX15_selectSort_101 rfl rfl ?_
  refine r_get 105 (aI (G 100 43)) dX15_selectSort_102 fkX15_540 (fun _ => dsT_100 P W _) nn100 rfl rfl ?_
  refine r_iconst 106 2 dX15_selectSort_105 rfl rfl ?_
  refine r_isub 107 dX15_selectSort_106 rfl ?_
  refine r_putI 110 dX15_selectSort_107 fkX15_540 (fun _ => dsT_100 P W _) nn100 rfl rfl ?_
  refine ss_tk (fun G3 => ?_)
  refine r_aload_n 111 1 dX15_selectSort_110 rfl rfl rfl ?_
  refine r_get 114 (aR 145) dX15_selectSort_111 fkX15_84 (fun _ => dsT_100 P W _) nn100 rfl rfl ?_
  refine r_aload_n 115 1 dX15_selectSort_114 rfl rfl rfl ?_
  refine r_get 118 (aI (G3 100 43)) dX15_selectSort_115 fkX15_540 (fun _ => dsT_100 P W _) nn100 rfl rfl ?_
  refine r_iconst 119 1 dX15_selectSort_118 rfl rfl ?_
  refine r_isub 120 dX15_selectSort_119 rfl ?_
  refine r_aload_n 121 1 dX15_selectSort_120 rfl rfl rfl ?_
  refine r_get 124 (aR 145) dX15_selectSort_121 fkX15_84 (fun _ => dsT_100 P W _) nn100 rfl rfl ?_
  refine r_aload_n 125 1 dX15_selectSort_124 rfl rfl rfl ?_
  refine r_get 128 (aI (G3 100 43)) dX15_selectSort_125 fkX15_540 (fun _ => dsT_100 P W _) nn100 rfl rfl ?_
  refine r_iald 129 dX15_selectSort_128 (fun _ _ _ => dsT_145 P W _) (fun _ _ => nn145) rfl ?_
  refine r_iast 130 dX15_selectSort_129 (fun _ _ _ => dsT_145 P W _) (fun _ _ => nn145) rfl ?_
  refine ss_tk (fun G4 => ?_)
  refine r_aload_n 131 1 dX15_selectSort_130 rfl rfl rfl ?_
  refine r_get 134 (aR 147) dX15_selectSort_131 fkX15_90 (fun _ => dsT_100 P W _) nn100 rfl rfl ?_
  refine r_aload_n 135 1 dX15_selectSort_134 rfl rfl rfl ?_
  refine r_get 138 (aI (G4 100 43)) dX15_selectSort_135 fkX15_540 (fun _ => dsT_100 P W _) nn100 rfl rfl ?_
  refine r_iconst 139 1 dX15_selectSort_138 rfl rfl ?_
  refine r_isub 140 dX15_selectSort_139 rfl ?_
  refine r_iload_n 141 0 dX15_selectSort_140 rfl rfl rfl ?_
  refine r_zast 142 dX15_selectSort_141 (fun _ _ _ => dsT_147 P W _) (fun _ _ => nn147) rfl ?_
  refine ss_tk (fun G5 => ?_)
  refine r_aload_n 143 1 dX15_selectSort_142 rfl rfl rfl ?_
  refine r_get 146 (aR 117) dX15_selectSort_143 fkX15_28 (fun _ => dsT_100 P W _) nn100 rfl rfl ?_
  refine r_iload_n 147 2 dX15_selectSort_146 rfl rfl rfl ?_
  refine r_aload_n 148 1 dX15_selectSort_147 rfl rfl rfl ?_
  refine r_get 151 (aR 145) dX15_selectSort_148 fkX15_84 (fun _ => dsT_100 P W _) nn100 rfl rfl ?_
  refine r_aload_n 152 1 dX15_selectSort_151 rfl rfl rfl ?_
  refine r_get 155 (aI (G5 100 43)) dX15_selectSort_152 fkX15_540 (fun _ => dsT_100 P W _) nn100 rfl rfl ?_
  refine r_iald 156 dX15_selectSort_155 (fun _ _ _ => dsT_145 P W _) (fun _ _ => nn145) rfl ?_
  refine r_iast 157 dX15_selectSort_156 (fun _ _ _ => dsT_117 P W _) (fun _ _ => nn117) rfl ?_
  refine ss_tk (fun G6 => ?_)
  exact r_return dX15_selectSort_157 rfl
theorem s_Tw_selectSort (P W : Int) (x1 : Int) (G : St) : SS (MTw_selectSort P W) some 0 [(0, aR 100), (1, aI x1)] [] G (Tw_selectSort x1 G) := by
  refine r_aload_n 1 0 dX15_selectSort_0 rfl rfl rfl ?_
  refine r_get 4 (aR 145) dX15_selectSort_1 fkX15_84 (fun _ => dsT_100 P W _) nn100 rfl rfl ?_
  refine r_aload_n 5 0 dX15_selectSort_4 rfl rfl rfl ?_
  refine r_get 8 (aI (G 100 43)) dX15_selectSort_5 fkX15_540 (fun _ => dsT_100 P W _) nn100 rfl rfl ?_
  refine r_iconst 9 3 dX15_selectSort_8 rfl rfl ?_
  refine r_isub 10 dX15_selectSort_9 rfl ?_
  refine r_iald 11 dX15_selectSort_10 (fun _ _ _ => dsT_145 P W _) (fun _ _ => nn145) rfl ?_
  refine r_iconst 12 1 dX15_selectSort_11 rfl rfl ?_
  refine r_icmp_ne 40 15 dX15_selectSort_12 rfl rfl ?_ ?_
  · exact s_Tw_selectSort_b40 P W x1 G
  · refine r_aload_n 16 0 dX15_selectSort_15 rfl rfl rfl ?_
    refine r_get 19 (aR 145) dX15_selectSort_16 fkX15_84 (fun _ => dsT_100 P W _) nn100 rfl rfl ?_
    refine r_aload_n 20 0 dX15_selectSort_19 rfl rfl rfl ?_
    refine r_get 23 (aI (G 100 43)) dX15_selectSort_20 fkX15_540 (fun _ => dsT_100 P W _) nn100 rfl rfl ?_
    refine r_iconst 24 2 dX15_selectSort_23 rfl rfl ?_
    refine r_isub 25 dX15_selectSort_24 rfl ?_
    refine r_iald 26 dX15_selectSort_25 (fun _ _ _ => dsT_145 P W _) (fun _ _ => nn145) rfl ?_
    refine r_aload_n 27 0 dX15_selectSort_26 rfl rfl rfl ?_
    refine r_get 30 (aR 145) dX15_selectSort_27 fkX15_84 (fun _ => dsT_100 P W _) nn100 rfl rfl ?_
    refine r_aload_n 31 0 dX15_selectSort_30 rfl rfl rfl ?_
    refine r_get 34 (aI (G 100 43)) dX15_selectSort_31 fkX15_540 (fun _ => dsT_100 P W _) nn100 rfl rfl ?_
    refine r_iconst 35 1 dX15_selectSort_34 rfl rfl ?_
    refine r_isub 36 dX15_selectSort_35 rfl ?_
    refine r_iald 37 dX15_selectSort_36 (fun _ _ _ => dsT_145 P W _) (fun _ _ => nn145) rfl ?_
    refine r_icmp_eq 52 40 dX15_selectSort_37 rfl rfl ?_ ?_
    · refine r_aload_n 53 0 dX15_selectSort_52 rfl rfl rfl ?_
      refine r_get 56 (aR 147) dX15_selectSort_53 fkX15_90 (fun _ => dsT_100 P W _) nn100 rfl rfl ?_
      refine r_aload_n 57 0 dX15_selectSort_56 rfl rfl rfl ?_
      refine r_get 60 (aI (G 100 43)) dX15_selectSort_57 fkX15_540 (fun _ => dsT_100 P W _) nn100 rfl rfl ?_
      refine r_iconst 61 3 dX15_selectSort_60 rfl rfl ?_
      refine r_isub 62 dX15_selectSort_61 rfl ?_
      refine r_zald 63 dX15_selectSort_62 (fun _ _ _ => dsT_147 P W _) (fun _ _ => nn147) rfl ?_
      refine r_if_eq 98 66 dX15_selectSort_63 rfl rfl ?_ ?_
      · refine r_iconst 99 0 dX15_selectSort_98 rfl rfl ?_
        exact s_Tw_selectSort_b99 P W x1 0 G
      · refine r_aload_n 67 0 dX15_selectSort_66 rfl rfl rfl ?_
        refine r_get 70 (aR 147) dX15_selectSort_67 fkX15_90 (fun _ => dsT_100 P W _) nn100 rfl rfl ?_
        refine r_aload_n 71 0 dX15_selectSort_70 rfl rfl rfl ?_
        refine r_get 74 (aI (G 100 43)) dX15_selectSort_71 fkX15_540 (fun _ => dsT_100 P W _) nn100 rfl rfl ?_
        refine r_iconst 75 2 dX15_selectSort_74 rfl rfl ?_
        refine r_isub 76 dX15_selectSort_75 rfl ?_
        refine r_zald 77 dX15_selectSort_76 (fun _ _ _ => dsT_147 P W _) (fun _ _ => nn147) rfl ?_
        refine r_if_eq 98 80 dX15_selectSort_77 rfl rfl ?_ ?_
        · refine r_iconst 99 0 dX15_selectSort_98 rfl rfl ?_
          exact s_Tw_selectSort_b99 P W x1 0 G
        · refine r_aload_n 81 0 dX15_selectSort_80 rfl rfl rfl ?_
          refine r_get 84 (aR 147) dX15_selectSort_81 fkX15_90 (fun _ => dsT_100 P W _) nn100 rfl rfl ?_
          refine r_aload_n 85 0 dX15_selectSort_84 rfl rfl rfl ?_
          refine r_get 88 (aI (G 100 43)) dX15_selectSort_85 fkX15_540 (fun _ => dsT_100 P W _) nn100 rfl rfl ?_
          refine r_iconst 89 1 dX15_selectSort_88 rfl rfl ?_
          refine r_isub 90 dX15_selectSort_89 rfl ?_
          refine r_zald 91 dX15_selectSort_90 (fun _ _ _ => dsT_147 P W _) (fun _ _ => nn147) rfl ?_
          refine SS.phi (fun VV_ => Tw_selectSort_b99 x1 VV_ G) ?_
          refine r_if_eq 98 94 dX15_selectSort_91 rfl rfl ?_ ?_
          · refine r_iconst 99 0 dX15_selectSort_98 rfl rfl ?_
            exact s_Tw_selectSort_b99 P W x1 0 G
          · refine r_iconst 95 1 dX15_selectSort_94 rfl rfl ?_
            refine r_goto 99 dX15_selectSort_95 rfl ?_
            exact s_Tw_selectSort_b99 P W x1 1 G
    · exact s_Tw_selectSort_b40 P W x1 G
theorem c_Tw_selectSort (P W : Int) (x1 : Int) (G : St) : MG (MTw_selectSort P W) [aR 100, aI x1] G (Tw_selectSort x1 G) := MG.of plX15 (Nat.le_of_ble_eq_true rfl) (s_Tw_selectSort P W x1 G)
theorem s_Tw_unarySort_b43 (P W : Int) (x1 : Int) (G : St) : SS (MTw_unarySort P W) some 43 [(0, aR 100), (1, aI x1)] [] G (Tw_unarySort_b43 x1 G) := by
  refine r_aload_n 44 0 dX15_unarySort_43 rfl rfl rfl ?_
  refine r_get 47 (aR 146) dX15_unarySort_44 fkX15_87 (fun _ => dsT_100 P W _) nn100 rfl rfl ?_
  refine r_aload_n 48 0 dX15_unarySort_47 rfl rfl rfl ?_
  refine r_get 51 (aI (G 100 43)) dX15_unarySort_48 fkX15_540 (fun _ => dsT_100 P W _) nn100 rfl rfl ?_
  refine r_iconst 52 1 dX15_unarySort_51 rfl rfl ?_
  refine r_isub 53 dX15_unarySort_52 rfl ?_
  refine r_aload_n 54 0 dX15_unarySort_53 rfl rfl rfl ?_
  refine r_get 57 (aR 118) dX15_unarySort_54 fkX15_31 (fun _ => dsT_100 P W _) nn100 rfl rfl ?_
  refine r_iload_n 58 1 dX15_unarySort_57 rfl rfl rfl ?_
  refine r_iald 59 dX15_unarySort_58 (fun _ _ _ => dsT_118 P W _) (fun _ _ => nn118) rfl ?_
  refine r_iast 60 dX15_unarySort_59 (fun _ _ _ => dsT_146 P W _) (fun _ _ => nn146) rfl ?_
  refine ss_tk (fun G1 => ?_)
  exact r_return dX15_unarySort_60 rfl
theorem s_Tw_unarySort_b16 (P W : Int) (x1 : Int) (s0 : Int) (G : St) : SS (MTw_unarySort P W) some 16 [(0, aR 100), (1, aI x1)] [aI s0] G (Tw_unarySort_b16 x1 s0 G) := by
  refine r_istore_n 17 [(2, aI s0), (0, aR 100), (1, aI x1)] dX15_unarySort_16 rfl rfl rfl rfl ?_
  refine r_aload_n 18 1 dX15_unarySort_17 rfl rfl rfl ?_
  refine r_get 21 (aR 145) dX15_unarySort_18 fkX15_84 (fun _ => dsT_100 P W _) nn100 rfl rfl ?_
  refine r_aload_n 22 1 dX15_unarySort_21 rfl rfl rfl ?_
  refine r_get 25 (aI (G 100 43)) dX15_unarySort_22 fkX15_540 (fun _ => dsT_100 P W _) nn100 rfl rfl ?_
  refine r_iconst 26 1 dX15_unarySort_25 rfl rfl ?_
  refine r_isub 27 dX15_unarySort_26 rfl ?_
  refine r_iald 28 dX15_unarySort_27 (fun _ _ _ => dsT_145 P W _) (fun _ _ => nn145) rfl ?_
  refine r_iload_n 29 0 dX15_unarySort_28 rfl rfl rfl ?_
  refine r_icmp_eq 43 32 dX15_unarySort_29 rfl rfl ?_ ?_
  · refine r_to [1, 2] [(0, aR 100), (1, aI x1)] rfl ?_
    exact s_Tw_unarySort_b43 P W x1 G
  · refine r_aload_n 33 1 dX15_unarySort_32 rfl rfl rfl ?_
    refine r_iconst 34 5 dX15_unarySort_33 rfl rfl ?_
    refine r_aload_n 35 1 dX15_unarySort_34 rfl rfl rfl ?_
    refine r_get 38 (aR 118) dX15_unarySort_35 fkX15_31 (fun _ => dsT_100 P W _) nn100 rfl rfl ?_
    refine r_iload_n 39 2 dX15_unarySort_38 rfl rfl rfl ?_
    refine r_iald 40 dX15_unarySort_39 (fun _ _ _ => dsT_118 P W _) (fun _ _ => nn118) rfl ?_
    refine r_callvV 43 (Mc := MTw_fail P W) (o := 100) (as := [aI 5, aI (G 118 x1)]) (st := []) dX15_unarySort_40 rfl (c_Tw_fail P W 5 (G 118 x1) G) lkX15_390 (cmTw_fail P W) rfl rfl rfl (fun _ => dsT_100 P W _) nn100 rfl (Nat.le_of_ble_eq_true rfl) (Nat.le_of_ble_eq_true rfl) (fun _ => rfl) rfl (fun z2 G3 => ?_)
    refine r_to [1, 2] [(0, aR 100), (1, aI x1)] rfl ?_
    exact s_Tw_unarySort_b43 P W x1 G3
theorem s_Tw_unarySort (P W : Int) (x1 : Int) (G : St) : SS (MTw_unarySort P W) some 0 [(0, aR 100), (1, aI x1)] [] G (Tw_unarySort x1 G) := by
  refine r_aload_n 1 0 dX15_unarySort_0 rfl rfl rfl ?_
  refine r_get 4 (aR 116) dX15_unarySort_1 fkX15_25 (fun _ => dsT_100 P W _) nn100 rfl rfl ?_
  refine r_iload_n 5 1 dX15_unarySort_4 rfl rfl rfl ?_
  refine r_iald 6 dX15_unarySort_5 (fun _ _ _ => dsT_116 P W _) (fun _ _ => nn116) rfl ?_
  refine r_bipush 8 33 dX15_unarySort_6 rfl rfl ?_
  refine SS.phi (fun VV_ => Tw_unarySort_b16 x1 VV_ G) ?_
  refine r_icmp_ne 15 11 dX15_unarySort_8 rfl rfl ?_ ?_
  · refine r_iconst 16 0 dX15_unarySort_15 rfl rfl ?_
    exact s_Tw_unarySort_b16 P W x1 0 G
  · refine r_iconst 12 1 dX15_unarySort_11 rfl rfl ?_
    refine r_goto 16 dX15_unarySort_12 rfl ?_
    exact s_Tw_unarySort_b16 P W x1 1 G
theorem c_Tw_unarySort (P W : Int) (x1 : Int) (G : St) : MG (MTw_unarySort P W) [aR 100, aI x1] G (Tw_unarySort x1 G) := MG.of plX15 (Nat.le_of_ble_eq_true rfl) (s_Tw_unarySort P W x1 G)
theorem s_Tw_visible_b75 (P W : Int) (x1 : Int) (X4 : Int × Int × St → Option (Int × St)) (hX4 : ∀ s, So (MTw_visible P W) 4 [(0, aR 100), (1, aI x1), (2, aI (s.1)), (3, aI (s.2.1))] [] s.2.2 (X4 s)) (x3 : Int) (s0 : Int) (G : St) : SS (MTw_visible P W) (lk X4 some) 75 [(0, aR 100), (1, aI x1), (3, aI x3)] [aI s0] G (Tw_visible_b75 x1 x3 s0 G) := by
  refine r_istore_n 76 [(2, aI s0), (0, aR 100), (1, aI x1), (3, aI x3)] dX15_visible_75 rfl rfl rfl rfl ?_
  refine r_iinc 79 [(3, aI (x3 + 1)), (2, aI s0), (0, aR 100), (1, aI x1)] 3 dX15_visible_76 rfl rfl rfl rfl ?_
  refine r_goto 4 dX15_visible_79 rfl ?_
  refine r_to [2, 3, 1, 0] [(0, aR 100), (1, aI x1), (2, aI s0), (3, aI (x3 + 1))] rfl ?_
  exact SS.back (hX4 (s0, x3 + 1, G))
theorem s_Tw_visible_b63 (P W : Int) (x1 : Int) (X4 : Int × Int × St → Option (Int × St)) (hX4 : ∀ s, So (MTw_visible P W) 4 [(0, aR 100), (1, aI x1), (2, aI (s.1)), (3, aI (s.2.1))] [] s.2.2 (X4 s)) (x2 : Int) (x3 : Int) (s0 : Int) (G : St) : SS (MTw_visible P W) (lk X4 some) 63 [(0, aR 100), (1, aI x1), (2, aI x2), (3, aI x3)] [aI s0] G (Tw_visible_b63 x1 x2 x3 s0 G) := by
  refine r_istore 65 [(4, aI s0), (0, aR 100), (1, aI x1), (2, aI x2), (3, aI x3)] dX15_visible_63 rfl rfl rfl ?_
  refine r_iload 67 0 dX15_visible_65 rfl rfl ?_
  refine SS.phi (fun VV_ => Tw_visible_b75 x1 x3 VV_ G) ?_
  refine r_if_eq 74 70 dX15_visible_67 rfl rfl ?_ ?_
  · refine r_iload_n 75 3 dX15_visible_74 rfl rfl rfl ?_
    refine r_to [1, 2, 4] [(0, aR 100), (1, aI x1), (3, aI x3)] rfl ?_
    exact s_Tw_visible_b75 P W x1 X4 hX4 x3 x2 G
  · refine r_iload_n 71 4 dX15_visible_70 rfl rfl rfl ?_
    refine r_goto 75 dX15_visible_71 rfl ?_
    refine r_to [1, 2, 4] [(0, aR 100), (1, aI x1), (3, aI x3)] rfl ?_
    exact s_Tw_visible_b75 P W x1 X4 hX4 x3 x3 G
theorem s_Tw_visible_s4 (P W : Int) (x1 : Int) (X4 : Int × Int × St → Option (Int × St)) (hX4 : ∀ s, So (MTw_visible P W) 4 [(0, aR 100), (1, aI x1), (2, aI (s.1)), (3, aI (s.2.1))] [] s.2.2 (X4 s)) (x2 : Int) (x3 : Int) (G : St) : SS (MTw_visible P W) (lk X4 some) 4 [(0, aR 100), (1, aI x1), (2, aI x2), (3, aI x3)] [] G (Tw_visible_s4 x1 x2 x3 G) := by
  refine r_iload_n 5 3 dX15_visible_4 rfl rfl rfl ?_
  refine r_aload_n 6 0 dX15_visible_5 rfl rfl rfl ?_
  refine r_get 9 (aI (G 100 34)) dX15_visible_6 fkX15_534 (fun _ => dsT_100 P W _) nn100 rfl rfl ?_
  refine r_icmp_ge 82 12 dX15_visible_9 rfl rfl ?_ ?_
  · refine SS.ex ?_
    refine r_iload_n 83 2 dX15_visible_82 rfl rfl rfl ?_
    exact r_ireturn dX15_visible_83 rfl
  · refine r_aload_n 13 0 dX15_visible_12 rfl rfl rfl ?_
    refine r_get 16 (aR 141) dX15_visible_13 fkX15_74 (fun _ => dsT_100 P W _) nn100 rfl rfl ?_
    refine r_iload_n 17 3 dX15_visible_16 rfl rfl rfl ?_
    refine r_zald 18 dX15_visible_17 (fun _ _ _ => dsT_141 P W _) (fun _ _ => nn141) rfl ?_
    refine r_if_eq 62 21 dX15_visible_18 rfl rfl ?_ ?_
    · refine r_iconst 63 0 dX15_visible_62 rfl rfl ?_
      exact s_Tw_visible_b63 P W x1 X4 hX4 x2 x3 0 G
    · refine r_aload_n 22 0 dX15_visible_21 rfl rfl rfl ?_
      refine r_get 25 (aR 136) dX15_visible_22 fkX15_59 (fun _ => dsT_100 P W _) nn100 rfl rfl ?_
      refine r_iload_n 26 3 dX15_visible_25 rfl rfl rfl ?_
      refine r_iald 27 dX15_visible_26 (fun _ _ _ => dsT_136 P W _) (fun _ _ => nn136) rfl ?_
      refine r_iload_n 28 1 dX15_visible_27 rfl rfl rfl ?_
      refine r_icmp_ne 62 31 dX15_visible_28 rfl rfl ?_ ?_
      · refine r_iconst 63 0 dX15_visible_62 rfl rfl ?_
        exact s_Tw_visible_b63 P W x1 X4 hX4 x2 x3 0 G
      · refine r_aload_n 32 0 dX15_visible_31 rfl rfl rfl ?_
        refine r_get 35 (aI (G 100 47)) dX15_visible_32 fkX15_537 (fun _ => dsT_100 P W _) nn100 rfl rfl ?_
        refine r_if_eq 58 38 dX15_visible_35 rfl rfl ?_ ?_
        · refine r_iconst 59 1 dX15_visible_58 rfl rfl ?_
          refine r_goto 63 dX15_visible_59 rfl ?_
          exact s_Tw_visible_b63 P W x1 X4 hX4 x2 x3 1 G
        · refine r_aload_n 39 0 dX15_visible_38 rfl rfl rfl ?_
          refine r_get 42 (aR 137) dX15_visible_39 fkX15_62 (fun _ => dsT_100 P W _) nn100 rfl rfl ?_
          refine r_iload_n 43 3 dX15_visible_42 rfl rfl rfl ?_
          refine r_iald 44 dX15_visible_43 (fun _ _ _ => dsT_137 P W _) (fun _ _ => nn137) rfl ?_
          refine r_iconst 45 5 dX15_visible_44 rfl rfl ?_
          refine r_icmp_eq 58 48 dX15_visible_45 rfl rfl ?_ ?_
          · refine r_iconst 59 1 dX15_visible_58 rfl rfl ?_
            refine r_goto 63 dX15_visible_59 rfl ?_
            exact s_Tw_visible_b63 P W x1 X4 hX4 x2 x3 1 G
          · refine r_aload_n 49 0 dX15_visible_48 rfl rfl rfl ?_
            refine r_get 52 (aR 137) dX15_visible_49 fkX15_62 (fun _ => dsT_100 P W _) nn100 rfl rfl ?_
            refine r_iload_n 53 3 dX15_visible_52 rfl rfl rfl ?_
            refine r_iald 54 dX15_visible_53 (fun _ _ _ => dsT_137 P W _) (fun _ _ => nn137) rfl ?_
            refine r_iconst 55 4 dX15_visible_54 rfl rfl ?_
            refine SS.phi (fun VV_ => Tw_visible_b63 x1 x2 x3 VV_ G) ?_
            refine r_icmp_ne 62 58 dX15_visible_55 rfl rfl ?_ ?_
            · refine r_iconst 63 0 dX15_visible_62 rfl rfl ?_
              exact s_Tw_visible_b63 P W x1 X4 hX4 x2 x3 0 G
            · refine r_iconst 59 1 dX15_visible_58 rfl rfl ?_
              refine r_goto 63 dX15_visible_59 rfl ?_
              exact s_Tw_visible_b63 P W x1 X4 hX4 x2 x3 1 G
theorem sl_Tw_visible_4 (P W : Int) (x1 : Int) (x2 : Int) (x3 : Int) (G : St) : SS (MTw_visible P W) some 4 [(0, aR 100), (1, aI x1), (2, aI x2), (3, aI x3)] [] G (Tw_visible_l4 x1 x2 x3 G) := by
  exact SS.loop (σ := Int × Int × St) (fun s => [(0, aR 100), (1, aI x1), (2, aI (s.1)), (3, aI (s.2.1))]) (fun s => s.2.2) (fun s => Tw_visible_s4 x1 s.1 s.2.1 s.2.2) (fun X4 hX4 s => s_Tw_visible_s4 P W x1  X4 hX4 s.1 s.2.1 s.2.2) (x2, x3, G)
theorem s_Tw_visible (P W : Int) (x1 : Int) (G : St) : SS (MTw_visible P W) some 0 [(0, aR 100), (1, aI x1)] [] G (Tw_visible x1 G) := by
  refine r_iconst 1 (-1) dX15_visible_0 rfl rfl ?_
  refine r_istore_n 2 [(2, aI (-1)), (0, aR 100), (1, aI x1)] dX15_visible_1 rfl rfl rfl rfl ?_
  refine r_iconst 3 0 dX15_visible_2 rfl rfl ?_
  refine r_istore_n 4 [(3, aI 0), (2, aI (-1)), (0, aR 100), (1, aI x1)] dX15_visible_3 rfl rfl rfl rfl ?_
  refine r_to [2, 3, 1, 0] [(0, aR 100), (1, aI x1), (2, aI (-1)), (3, aI 0)] rfl ?_
  exact sl_Tw_visible_4 P W x1 (-1) 0 G
theorem c_Tw_visible (P W : Int) (x1 : Int) (G : St) : MG (MTw_visible P W) [aR 100, aI x1] G (Tw_visible x1 G) := MG.of plX15 (Nat.le_of_ble_eq_true rfl) (s_Tw_visible P W x1 G)
theorem s_Tw_used_b27 (P W : Int) (x2 : Int) (G : St) : SS (MTw_used P W) some 27 [(2, aI x2)] [] G (Tw_used_b27 x2 G) := by
  refine r_iload_n 28 0 dX15_used_27 rfl rfl rfl ?_
  exact r_ireturn dX15_used_28 rfl
theorem s_Tw_used (P W : Int) (x1 : Int) (G : St) : SS (MTw_used P W) some 0 [(0, aR 100), (1, aI x1)] [] G (Tw_used x1 G) := by
  refine r_aload_n 1 0 dX15_used_0 rfl rfl rfl ?_
  refine r_aload_n 2 0 dX15_used_1 rfl rfl rfl ?_
  refine r_get 5 (aR 116) dX15_used_2 fkX15_25 (fun _ => dsT_100 P W _) nn100 rfl rfl ?_
  refine r_iload_n 6 1 dX15_used_5 rfl rfl rfl ?_
  refine r_iald 7 dX15_used_6 (fun _ _ _ => dsT_116 P W _) (fun _ _ => nn116) rfl ?_
  refine r_callvI 10 (Mc := MTw_visible P W) (o := 100) (as := [aI (G 116 x1)]) (st := []) dX15_used_7 rfl (c_Tw_visible P W (G 116 x1) G) lkX15_543 (cmTw_visible P W) rfl rfl rfl (fun _ => dsT_100 P W _) nn100 rfl (Nat.le_of_ble_eq_true rfl) (Nat.le_of_ble_eq_true rfl) (fun _ => rfl) rfl (fun z1 G2 => ?_)
  refine r_istore_n 11 [(2, aI z1), (0, aR 100), (1, aI x1)] dX15_used_10 rfl rfl rfl rfl ?_
  refine r_iload_n 12 0 dX15_used_11 rfl rfl rfl ?_
  refine r_iconst 13 (-1) dX15_used_12 rfl rfl ?_
  refine r_icmp_ne 27 16 dX15_used_13 rfl rfl ?_ ?_
  · refine r_to [0] [(2, aI z1)] rfl ?_
    exact s_Tw_used_b27 P W z1 G2
  · refine r_aload_n 17 1 dX15_used_16 rfl rfl rfl ?_
    refine r_iconst 18 4 dX15_used_17 rfl rfl ?_
    refine r_aload_n 19 1 dX15_used_18 rfl rfl rfl ?_
    refine r_get 22 (aR 118) dX15_used_19 fkX15_31 (fun _ => dsT_100 P W _) nn100 rfl rfl ?_
    refine r_iload_n 23 2 dX15_used_22 rfl rfl rfl ?_
    refine r_iald 24 dX15_used_23 (fun _ _ _ => dsT_118 P W _) (fun _ _ => nn118) rfl ?_
    refine r_callvV 27 (Mc := MTw_fail P W) (o := 100) (as := [aI 4, aI (G2 118 x1)]) (st := []) dX15_used_24 rfl (c_Tw_fail P W 4 (G2 118 x1) G2) lkX15_390 (cmTw_fail P W) rfl rfl rfl (fun _ => dsT_100 P W _) nn100 rfl (Nat.le_of_ble_eq_true rfl) (Nat.le_of_ble_eq_true rfl) (fun _ => rfl) rfl (fun z3 G4 => ?_)
    refine r_to [0] [(2, aI z1)] rfl ?_
    exact s_Tw_used_b27 P W z1 G4
theorem c_Tw_used (P W : Int) (x1 : Int) (G : St) : MG (MTw_used P W) [aR 100, aI x1] G (Tw_used x1 G) := MG.of plX15 (Nat.le_of_ble_eq_true rfl) (s_Tw_used P W x1 G)
theorem s_Tw_operandSort_b88 (P W : Int) (x2 : Int) (G : St) : SS (MTw_operandSort P W) some 88 [(0, aR 100), (2, aI x2)] [] G (Tw_operandSort_b88 x2 G) := by
  refine r_aload_n 89 0 dX15_operandSort_88 rfl rfl rfl ?_
  refine r_iconst 90 0 dX15_operandSort_89 rfl rfl ?_
  refine r_iload_n 91 1 dX15_operandSort_90 rfl rfl rfl ?_
  refine r_iconst 92 1 dX15_operandSort_91 rfl rfl ?_
  refine r_callvV 95 (Mc := MTw_pile P W) (o := 100) (as := [aI 0, aI x2, aI 1]) (st := []) dX15_operandSort_92 rfl (c_Tw_pile P W 0 x2 1 G) lkX15_564 (cmTw_pile P W) rfl rfl rfl (fun _ => dsT_100 P W _) nn100 rfl (Nat.le_of_ble_eq_true rfl) (Nat.le_of_ble_eq_true rfl) (fun _ => rfl) rfl (fun z1 G2 => ?_)
  refine r_goto 600 dX15_operandSort_95 rfl ?_
  exact r_return dX15_operandSort_600 rfl
theorem s_Tw_operandSort_b98 (P W : Int) (x2 : Int) (G : St) : SS (MTw_operandSort P W) some 98 [(0, aR 100), (2, aI x2)] [] G (Tw_operandSort_b98 x2 G) := by
  refine r_aload_n 99 0 dX15_operandSort_98 rfl rfl rfl ?_
  refine r_iconst 100 1 dX15_operandSort_99 rfl rfl ?_
  refine r_iload_n 101 1 dX15_operandSort_100 rfl rfl rfl ?_
  refine r_iconst 102 1 dX15_operandSort_101 rfl rfl ?_
  refine r_callvV 105 (Mc := MTw_pile P W) (o := 100) (as := [aI 1, aI x2, aI 1]) (st := []) dX15_operandSort_102 rfl (c_Tw_pile P W 1 x2 1 G) lkX15_564 (cmTw_pile P W) rfl rfl rfl (fun _ => dsT_100 P W _) nn100 rfl (Nat.le_of_ble_eq_true rfl) (Nat.le_of_ble_eq_true rfl) (fun _ => rfl) rfl (fun z3 G4 => ?_)
  refine r_goto 600 dX15_operandSort_105 rfl ?_
  exact r_return dX15_operandSort_600 rfl
theorem s_Tw_operandSort_b182 (P W : Int) (s0 : Int) (s1 : Int) (s2 : Int) (G : St) : SS (MTw_operandSort P W) some 182 [] [aI s0, aI s1, aI s2, aR 100] G (Tw_operandSort_b182 s0 s1 s2 G) := by
  refine r_callvV 185 (Mc := MTw_pile P W) (o := 100) (as := [aI s2, aI s1, aI s0]) (st := []) dX15_operandSort_182 rfl (c_Tw_pile P W s2 s1 s0 G) lkX15_564 (cmTw_pile P W) rfl rfl rfl (fun _ => dsT_100 P W _) nn100 rfl (Nat.le_of_ble_eq_true rfl) (Nat.le_of_ble_eq_true rfl) (fun _ => rfl) rfl (fun z9 G10 => ?_)
  refine r_goto 600 dX15_operandSort_185 rfl ?_
  exact r_return dX15_operandSort_600 rfl
theorem s_Tw_operandSort_b146 (P W : Int) (x1 : Int) (x2 : Int) (x3 : Int) (G : St) : SS (MTw_operandSort P W) some 146 [(0, aR 100), (1, aI x1), (2, aI x2), (3, aI x3)] [] G (Tw_operandSort_b146 x1 x2 x3 G) := by
  refine r_aload_n 147 0 dX15_operandSort_146 rfl rfl rfl ?_
  refine r_get 150 (aI (G 100 7)) dX15_operandSort_147 fkX15_323 (fun _ => dsT_100 P W _) nn100 rfl rfl ?_
  refine r_if_ne 600 153 dX15_operandSort_150 rfl rfl ?_ ?_
  · exact r_return dX15_operandSort_600 rfl
  · refine r_aload_n 154 0 dX15_operandSort_153 rfl rfl rfl ?_
    refine r_iload_n 155 1 dX15_operandSort_154 rfl rfl rfl ?_
    refine r_iload_n 156 3 dX15_operandSort_155 rfl rfl rfl ?_
    refine r_callvV 159 (Mc := MTw_refer P W) (o := 100) (as := [aI x1, aI x3]) (st := []) dX15_operandSort_156 rfl (c_Tw_refer P W x1 x3 G) lkX15_571 (cmTw_refer P W) rfl rfl rfl (fun _ => dsT_100 P W _) nn100 rfl (Nat.le_of_ble_eq_true rfl) (Nat.le_of_ble_eq_true rfl) (fun _ => rfl) rfl (fun z7 G8 => ?_)
    refine r_aload_n 160 0 dX15_operandSort_159 rfl rfl rfl ?_
    refine r_aload_n 161 0 dX15_operandSort_160 rfl rfl rfl ?_
    refine r_get 164 (aR 138) dX15_operandSort_161 fkX15_65 (fun _ => dsT_100 P W _) nn100 rfl rfl ?_
    refine r_iload_n 165 3 dX15_operandSort_164 rfl rfl rfl ?_
    refine r_iald 166 dX15_operandSort_165 (fun _ _ _ => dsT_138 P W _) (fun _ _ => nn138) rfl ?_
    refine r_iload_n 167 2 dX15_operandSort_166 rfl rfl rfl ?_
    refine r_aload_n 168 0 dX15_operandSort_167 rfl rfl rfl ?_
    refine r_get 171 (aR 137) dX15_operandSort_168 fkX15_62 (fun _ => dsT_100 P W _) nn100 rfl rfl ?_
    refine r_iload_n 172 3 dX15_operandSort_171 rfl rfl rfl ?_
    refine r_iald 173 dX15_operandSort_172 (fun _ _ _ => dsT_137 P W _) (fun _ _ => nn137) rfl ?_
    refine r_iconst 174 3 dX15_operandSort_173 rfl rfl ?_
    refine SS.phi (fun VV_ => Tw_operandSort_b182 VV_ x2 (G8 138 x3) G8) ?_
    refine r_icmp_ne 181 177 dX15_operandSort_174 rfl rfl ?_ ?_
    · refine r_iconst 182 0 dX15_operandSort_181 rfl rfl ?_
      refine r_to [] [] rfl ?_
      exact s_Tw_operandSort_b182 P W 0 x2 (G8 138 x3) G8
    · refine r_iconst 178 1 dX15_operandSort_177 rfl rfl ?_
      refine r_goto 182 dX15_operandSort_178 rfl ?_
      refine r_to [] [] rfl ?_
      exact s_Tw_operandSort_b182 P W 1 x2 (G8 138 x3) G8
theorem s_Tw_operandSort_b140 (P W : Int) (x1 : Int) (x2 : Int) (x3 : Int) (G : St) : SS (MTw_operandSort P W) some 140 [(0, aR 100), (1, aI x1), (2, aI x2), (3, aI x3)] [] G (Tw_operandSort_b140 x1 x2 x3 G) := by
  refine r_aload_n 141 0 dX15_operandSort_140 rfl rfl rfl ?_
  refine r_iconst 142 5 dX15_operandSort_141 rfl rfl ?_
  refine r_iload_n 143 2 dX15_operandSort_142 rfl rfl rfl ?_
  refine r_callvV 146 (Mc := MTw_fail P W) (o := 100) (as := [aI 5, aI x2]) (st := []) dX15_operandSort_143 rfl (c_Tw_fail P W 5 x2 G) lkX15_390 (cmTw_fail P W) rfl rfl rfl (fun _ => dsT_100 P W _) nn100 rfl (Nat.le_of_ble_eq_true rfl) (Nat.le_of_ble_eq_true rfl) (fun _ => rfl) rfl (fun z11 G12 => ?_)
  exact s_Tw_operandSort_b146 P W x1 x2 x3 G12
theorem s_Tw_operandSort_b108 (P W : Int) (x1 : Int) (x2 : Int) (G : St) : SS (MTw_operandSort P W) some 108 [(0, aR 100), (1, aI x1), (2, aI x2)] [] G (Tw_operandSort_b108 x1 x2 G) := by
  refine r_aload_n 109 0 dX15_operandSort_108 rfl rfl rfl ?_
  refine r_iload_n 110 1 dX15_operandSort_109 rfl rfl rfl ?_
  refine r_callvI 113 (Mc := MTw_used P W) (o := 100) (as := [aI x1]) (st := []) dX15_operandSort_110 rfl (c_Tw_used P W x1 G) lkX15_568 (cmTw_used P W) rfl rfl rfl (fun _ => dsT_100 P W _) nn100 rfl (Nat.le_of_ble_eq_true rfl) (Nat.le_of_ble_eq_true rfl) (fun _ => rfl) rfl (fun z5 G6 => ?_)
  refine r_istore_n 114 [(3, aI z5), (0, aR 100), (1, aI x1), (2, aI x2)] dX15_operandSort_113 rfl rfl rfl rfl ?_
  refine r_aload_n 115 1 dX15_operandSort_114 rfl rfl rfl ?_
  refine r_get 118 (aI (G6 100 7)) dX15_operandSort_115 fkX15_323 (fun _ => dsT_100 P W _) nn100 rfl rfl ?_
  refine r_if_ne 146 121 dX15_operandSort_118 rfl rfl ?_ ?_
  · refine r_to [1, 2, 3, 0] [(0, aR 100), (1, aI x1), (2, aI x2), (3, aI z5)] rfl ?_
    exact s_Tw_operandSort_b146 P W x1 x2 z5 G6
  · refine r_aload_n 122 1 dX15_operandSort_121 rfl rfl rfl ?_
    refine r_get 125 (aR 139) dX15_operandSort_122 fkX15_68 (fun _ => dsT_100 P W _) nn100 rfl rfl ?_
    refine r_iload_n 126 0 dX15_operandSort_125 rfl rfl rfl ?_
    refine r_iald 127 dX15_operandSort_126 (fun _ _ _ => dsT_139 P W _) (fun _ _ => nn139) rfl ?_
    refine r_if_gt 140 130 dX15_operandSort_127 rfl rfl ?_ ?_
    · refine r_to [1, 2, 3, 0] [(0, aR 100), (1, aI x1), (2, aI x2), (3, aI z5)] rfl ?_
      exact s_Tw_operandSort_b140 P W x1 x2 z5 G6
    · refine r_aload_n 131 1 dX15_operandSort_130 rfl rfl rfl ?_
      refine r_get 134 (aR 137) dX15_operandSort_131 fkX15_62 (fun _ => dsT_100 P W _) nn100 rfl rfl ?_
      refine r_iload_n 135 0 dX15_operandSort_134 rfl rfl rfl ?_
      refine r_iald 136 dX15_operandSort_135 (fun _ _ _ => dsT_137 P W _) (fun _ _ => nn137) rfl ?_
      refine r_iconst 137 5 dX15_operandSort_136 rfl rfl ?_
      refine r_icmp_ne 146 140 dX15_operandSort_137 rfl rfl ?_ ?_
      · refine r_to [1, 2, 3, 0] [(0, aR 100), (1, aI x1), (2, aI x2), (3, aI z5)] rfl ?_
        exact s_Tw_operandSort_b146 P W x1 x2 z5 G6
      · refine r_to [1, 2, 3, 0] [(0, aR 100), (1, aI x1), (2, aI x2), (3, aI z5)] rfl ?_
        exact s_Tw_operandSort_b140 P W x1 x2 z5 G6
theorem s_Tw_operandSort_b188 (P W : Int) (x1 : Int) (x2 : Int) (G : St) : SS (MTw_operandSort P W) some 188 [(0, aR 100), (1, aI x1), (2, aI x2)] [] G (Tw_operandSort_b188 x1 x2 G) := by
  refine r_aload_n 189 0 dX15_operandSort_188 rfl rfl rfl ?_
  refine r_iload_n 190 1 dX15_operandSort_189 rfl rfl rfl ?_
  refine r_callvI 193 (Mc := MTw_used P W) (o := 100) (as := [aI x1]) (st := []) dX15_operandSort_190 rfl (c_Tw_used P W x1 G) lkX15_568 (cmTw_used P W) rfl rfl rfl (fun _ => dsT_100 P W _) nn100 rfl (Nat.le_of_ble_eq_true rfl) (Nat.le_of_ble_eq_true rfl) (fun _ => rfl) rfl (fun z13 G14 => ?_)
  refine r_istore_n 194 [(3, aI z13), (0, aR 100), (1, aI x1), (2, aI x2)] dX15_operandSort_193 rfl rfl rfl rfl ?_
  refine r_aload_n 195 1 dX15_operandSort_194 rfl rfl rfl ?_
  refine r_get 198 (aI (G14 100 7)) dX15_operandSort_195 fkX15_323 (fun _ => dsT_100 P W _) nn100 rfl rfl ?_
  refine r_if_ne 600 201 dX15_operandSort_198 rfl rfl ?_ ?_
  · exact r_return dX15_operandSort_600 rfl
  · refine r_aload_n 202 1 dX15_operandSort_201 rfl rfl rfl ?_
    refine r_get 205 (aR 139) dX15_operandSort_202 fkX15_68 (fun _ => dsT_100 P W _) nn100 rfl rfl ?_
    refine r_iload_n 206 0 dX15_operandSort_205 rfl rfl rfl ?_
    refine r_iald 207 dX15_operandSort_206 (fun _ _ _ => dsT_139 P W _) (fun _ _ => nn139) rfl ?_
    refine r_if_ne 600 210 dX15_operandSort_207 rfl rfl ?_ ?_
    · exact r_return dX15_operandSort_600 rfl
    · refine r_aload_n 211 1 dX15_operandSort_210 rfl rfl rfl ?_
      refine r_iconst 212 5 dX15_operandSort_211 rfl rfl ?_
      refine r_iload_n 213 3 dX15_operandSort_212 rfl rfl rfl ?_
      refine r_callvV 216 (Mc := MTw_fail P W) (o := 100) (as := [aI 5, aI x2]) (st := []) dX15_operandSort_213 rfl (c_Tw_fail P W 5 x2 G14) lkX15_390 (cmTw_fail P W) rfl rfl rfl (fun _ => dsT_100 P W _) nn100 rfl (Nat.le_of_ble_eq_true rfl) (Nat.le_of_ble_eq_true rfl) (fun _ => rfl) rfl (fun z15 G16 => ?_)
      refine r_goto 600 dX15_operandSort_216 rfl ?_
      exact r_return dX15_operandSort_600 rfl
theorem s_Tw_operandSort_b219 (P W : Int) (x1 : Int) (x2 : Int) (G : St) : SS (MTw_operandSort P W) some 219 [(0, aR 100), (1, aI x1), (2, aI x2)] [] G (Tw_operandSort_b219 x1 x2 G) := by
  refine r_aload_n 220 0 dX15_operandSort_219 rfl rfl rfl ?_
  refine r_iconst 221 0 dX15_operandSort_220 rfl rfl ?_
  refine r_callvV 224 (Mc := MTw_must P W) (o := 100) (as := [aI 0]) (st := []) dX15_operandSort_221 rfl (c_Tw_must P W 0 G) lkX15_574 (cmTw_must P W) rfl rfl rfl (fun _ => dsT_100 P W _) nn100 rfl (Nat.le_of_ble_eq_true rfl) (Nat.le_of_ble_eq_true rfl) (fun _ => rfl) rfl (fun z17 G18 => ?_)
  refine r_aload_n 225 0 dX15_operandSort_224 rfl rfl rfl ?_
  refine r_aload_n 226 0 dX15_operandSort_225 rfl rfl rfl ?_
  refine r_get 229 (aR 116) dX15_operandSort_226 fkX15_25 (fun _ => dsT_100 P W _) nn100 rfl rfl ?_
  refine r_iload_n 230 1 dX15_operandSort_229 rfl rfl rfl ?_
  refine r_iald 231 dX15_operandSort_230 (fun _ _ _ => dsT_116 P W _) (fun _ _ => nn116) rfl ?_
  refine r_callvI 234 (Mc := MTw_visible P W) (o := 100) (as := [aI (G18 116 x1)]) (st := []) dX15_operandSort_231 rfl (c_Tw_visible P W (G18 116 x1) G18) lkX15_543 (cmTw_visible P W) rfl rfl rfl (fun _ => dsT_100 P W _) nn100 rfl (Nat.le_of_ble_eq_true rfl) (Nat.le_of_ble_eq_true rfl) (fun _ => rfl) rfl (fun z19 G20 => ?_)
  refine r_istore_n 235 [(3, aI z19), (0, aR 100), (1, aI x1), (2, aI x2)] dX15_operandSort_234 rfl rfl rfl rfl ?_
  refine r_aload_n 236 1 dX15_operandSort_235 rfl rfl rfl ?_
  refine r_get 239 (aI (G20 100 7)) dX15_operandSort_236 fkX15_323 (fun _ => dsT_100 P W _) nn100 rfl rfl ?_
  refine r_if_ne 600 242 dX15_operandSort_239 rfl rfl ?_ ?_
  · exact r_return dX15_operandSort_600 rfl
  · refine r_aload_n 243 1 dX15_operandSort_242 rfl rfl rfl ?_
    refine r_iload_n 244 2 dX15_operandSort_243 rfl rfl rfl ?_
    refine r_iload_n 245 0 dX15_operandSort_244 rfl rfl rfl ?_
    refine r_callvV 248 (Mc := MTw_refer P W) (o := 100) (as := [aI x1, aI z19]) (st := []) dX15_operandSort_245 rfl (c_Tw_refer P W x1 z19 G20) lkX15_571 (cmTw_refer P W) rfl rfl rfl (fun _ => dsT_100 P W _) nn100 rfl (Nat.le_of_ble_eq_true rfl) (Nat.le_of_ble_eq_true rfl) (fun _ => rfl) rfl (fun z21 G22 => ?_)
    refine r_aload_n 249 1 dX15_operandSort_248 rfl rfl rfl ?_
    refine r_get 252 (aR 155) dX15_operandSort_249 fkX15_108 (fun _ => dsT_100 P W _) nn100 rfl rfl ?_
    refine r_iload_n 253 2 dX15_operandSort_252 rfl rfl rfl ?_
    refine r_aload_n 254 1 dX15_operandSort_253 rfl rfl rfl ?_
    refine r_get 257 (aR 146) dX15_operandSort_254 fkX15_87 (fun _ => dsT_100 P W _) nn100 rfl rfl ?_
    refine r_aload_n 258 1 dX15_operandSort_257 rfl rfl rfl ?_
    refine r_get 261 (aI (G22 100 43)) dX15_operandSort_258 fkX15_540 (fun _ => dsT_100 P W _) nn100 rfl rfl ?_
    refine r_iconst 262 1 dX15_operandSort_261 rfl rfl ?_
    refine r_isub 263 dX15_operandSort_262 rfl ?_
    refine r_iald 264 dX15_operandSort_263 (fun _ _ _ => dsT_146 P W _) (fun _ _ => nn146) rfl ?_
    refine r_iast 265 dX15_operandSort_264 (fun _ _ _ => dsT_155 P W _) (fun _ _ => nn155) rfl ?_
    refine ss_tk (fun G23 => ?_)
    refine r_aload_n 266 1 dX15_operandSort_265 rfl rfl rfl ?_
    refine r_get 269 (aR 156) dX15_operandSort_266 fkX15_111 (fun _ => dsT_100 P W _) nn100 rfl rfl ?_
    refine r_iload_n 270 2 dX15_operandSort_269 rfl rfl rfl ?_
    refine r_aload_n 271 1 dX15_operandSort_270 rfl rfl rfl ?_
    refine r_get 274 (aR 147) dX15_operandSort_271 fkX15_90 (fun _ => dsT_100 P W _) nn100 rfl rfl ?_
    refine r_aload_n 275 1 dX15_operandSort_274 rfl rfl rfl ?_
    refine r_get 278 (aI (G23 100 43)) dX15_operandSort_275 fkX15_540 (fun _ => dsT_100 P W _) nn100 rfl rfl ?_
    refine r_iconst 279 1 dX15_operandSort_278 rfl rfl ?_
    refine r_isub 280 dX15_operandSort_279 rfl ?_
    refine r_zald 281 dX15_operandSort_280 (fun _ _ _ => dsT_147 P W _) (fun _ _ => nn147) rfl ?_
    refine r_zast 282 dX15_operandSort_281 (fun _ _ _ => dsT_156 P W _) (fun _ _ => nn156) rfl ?_
    refine ss_tk (fun G24 => ?_)
    refine r_aload_n 283 1 dX15_operandSort_282 rfl rfl rfl ?_
    refine r_dup 284 dX15_operandSort_283 rfl rfl ?_
    refine r_get 287 (aI (G24 100 43)) dX15_operandSort_284 fkX15_540 (fun _ => dsT_100 P W _) nn100 rfl rfl ?_
    refine r_iconst 288 1 dX15_operandSort_287 rfl rfl ?_
    refine r_isub 289 dX15_operandSort_288 rfl ?_
    refine r_putI 292 dX15_operandSort_289 fkX15_540 (fun _ => dsT_100 P W _) nn100 rfl rfl ?_
    refine ss_tk (fun G25 => ?_)
    refine r_aload_n 293 1 dX15_operandSort_292 rfl rfl rfl ?_
    refine r_aload_n 294 1 dX15_operandSort_293 rfl rfl rfl ?_
    refine r_get 297 (aR 138) dX15_operandSort_294 fkX15_65 (fun _ => dsT_100 P W _) nn100 rfl rfl ?_
    refine r_iload_n 298 0 dX15_operandSort_297 rfl rfl rfl ?_
    refine r_iald 299 dX15_operandSort_298 (fun _ _ _ => dsT_138 P W _) (fun _ _ => nn138) rfl ?_
    refine r_iload_n 300 3 dX15_operandSort_299 rfl rfl rfl ?_
    refine r_iconst 301 0 dX15_operandSort_300 rfl rfl ?_
    refine r_callvV 304 (Mc := MTw_pile P W) (o := 100) (as := [aI (G25 138 z19), aI x2, aI 0]) (st := []) dX15_operandSort_301 rfl (c_Tw_pile P W (G25 138 z19) x2 0 G25) lkX15_564 (cmTw_pile P W) rfl rfl rfl (fun _ => dsT_100 P W _) nn100 rfl (Nat.le_of_ble_eq_true rfl) (Nat.le_of_ble_eq_true rfl) (fun _ => rfl) rfl (fun z26 G27 => ?_)
    refine r_goto 600 dX15_operandSort_304 rfl ?_
    exact r_return dX15_operandSort_600 rfl
theorem s_Tw_operandSort_b351 (P W : Int) (x3 : Int) (G : St) : SS (MTw_operandSort P W) some 351 [(0, aR 100), (3, aI x3)] [] G (Tw_operandSort_b351 x3 G) := by
  refine r_aload_n 352 0 dX15_operandSort_351 rfl rfl rfl ?_
  refine r_get 355 (aI (G 100 7)) dX15_operandSort_352 fkX15_323 (fun _ => dsT_100 P W _) nn100 rfl rfl ?_
  refine r_if_ne 600 358 dX15_operandSort_355 rfl rfl ?_ ?_
  · exact r_return dX15_operandSort_600 rfl
  · refine r_aload_n 359 0 dX15_operandSort_358 rfl rfl rfl ?_
    refine r_get 362 (aR 158) dX15_operandSort_359 fkX15_114 (fun _ => dsT_100 P W _) nn100 rfl rfl ?_
    refine r_aload_n 363 0 dX15_operandSort_362 rfl rfl rfl ?_
    refine r_get 366 (aI (G 100 56)) dX15_operandSort_363 fkX15_549 (fun _ => dsT_100 P W _) nn100 rfl rfl ?_
    refine r_iload_n 367 1 dX15_operandSort_366 rfl rfl rfl ?_
    refine r_iast 368 dX15_operandSort_367 (fun _ _ _ => dsT_158 P W _) (fun _ _ => nn158) rfl ?_
    refine ss_tk (fun G30 => ?_)
    refine r_aload_n 369 0 dX15_operandSort_368 rfl rfl rfl ?_
    refine r_get 372 (aR 159) dX15_operandSort_369 fkX15_117 (fun _ => dsT_100 P W _) nn100 rfl rfl ?_
    refine r_aload_n 373 0 dX15_operandSort_372 rfl rfl rfl ?_
    refine r_get 376 (aI (G30 100 56)) dX15_operandSort_373 fkX15_549 (fun _ => dsT_100 P W _) nn100 rfl rfl ?_
    refine r_aload_n 377 0 dX15_operandSort_376 rfl rfl rfl ?_
    refine r_get 380 (aI (G30 100 43)) dX15_operandSort_377 fkX15_540 (fun _ => dsT_100 P W _) nn100 rfl rfl ?_
    refine r_iast 381 dX15_operandSort_380 (fun _ _ _ => dsT_159 P W _) (fun _ _ => nn159) rfl ?_
    refine ss_tk (fun G31 => ?_)
    refine r_aload_n 382 0 dX15_operandSort_381 rfl rfl rfl ?_
    refine r_dup 383 dX15_operandSort_382 rfl rfl ?_
    refine r_get 386 (aI (G31 100 56)) dX15_operandSort_383 fkX15_549 (fun _ => dsT_100 P W _) nn100 rfl rfl ?_
    refine r_iconst 387 1 dX15_operandSort_386 rfl rfl ?_
    refine r_iadd 388 dX15_operandSort_387 rfl ?_
    refine r_putI 391 dX15_operandSort_388 fkX15_549 (fun _ => dsT_100 P W _) nn100 rfl rfl ?_
    refine ss_tk (fun G32 => ?_)
    refine r_goto 600 dX15_operandSort_391 rfl ?_
    exact r_return dX15_operandSort_600 rfl
theorem s_Tw_operandSort_b345 (P W : Int) (x2 : Int) (x3 : Int) (G : St) : SS (MTw_operandSort P W) some 345 [(0, aR 100), (2, aI x2), (3, aI x3)] [] G (Tw_operandSort_b345 x2 x3 G) := by
  refine r_aload_n 346 0 dX15_operandSort_345 rfl rfl rfl ?_
  refine r_iconst 347 5 dX15_operandSort_346 rfl rfl ?_
  refine r_iload_n 348 1 dX15_operandSort_347 rfl rfl rfl ?_
  refine r_callvV 351 (Mc := MTw_fail P W) (o := 100) (as := [aI 5, aI x2]) (st := []) dX15_operandSort_348 rfl (c_Tw_fail P W 5 x2 G) lkX15_390 (cmTw_fail P W) rfl rfl rfl (fun _ => dsT_100 P W _) nn100 rfl (Nat.le_of_ble_eq_true rfl) (Nat.le_of_ble_eq_true rfl) (fun _ => rfl) rfl (fun z33 G34 => ?_)
  refine r_to [0, 2] [(0, aR 100), (3, aI x3)] rfl ?_
  exact s_Tw_operandSort_b351 P W x3 G34
theorem s_Tw_operandSort_b307 (P W : Int) (x1 : Int) (x2 : Int) (G : St) : SS (MTw_operandSort P W) some 307 [(0, aR 100), (1, aI x1), (2, aI x2)] [] G (Tw_operandSort_b307 x1 x2 G) := by
  refine r_aload_n 308 0 dX15_operandSort_307 rfl rfl rfl ?_
  refine r_iload_n 309 1 dX15_operandSort_308 rfl rfl rfl ?_
  refine r_callvI 312 (Mc := MTw_used P W) (o := 100) (as := [aI x1]) (st := []) dX15_operandSort_309 rfl (c_Tw_used P W x1 G) lkX15_568 (cmTw_used P W) rfl rfl rfl (fun _ => dsT_100 P W _) nn100 rfl (Nat.le_of_ble_eq_true rfl) (Nat.le_of_ble_eq_true rfl) (fun _ => rfl) rfl (fun z28 G29 => ?_)
  refine r_istore_n 313 [(3, aI z28), (0, aR 100), (1, aI x1), (2, aI x2)] dX15_operandSort_312 rfl rfl rfl rfl ?_
  refine r_aload_n 314 1 dX15_operandSort_313 rfl rfl rfl ?_
  refine r_get 317 (aI (G29 100 7)) dX15_operandSort_314 fkX15_323 (fun _ => dsT_100 P W _) nn100 rfl rfl ?_
  refine r_if_ne 351 320 dX15_operandSort_317 rfl rfl ?_ ?_
  · refine r_to [1, 0] [(0, aR 100), (3, aI z28)] rfl ?_
    exact s_Tw_operandSort_b351 P W z28 G29
  · refine r_aload_n 321 1 dX15_operandSort_320 rfl rfl rfl ?_
    refine r_get 324 (aR 137) dX15_operandSort_321 fkX15_62 (fun _ => dsT_100 P W _) nn100 rfl rfl ?_
    refine r_iload_n 325 0 dX15_operandSort_324 rfl rfl rfl ?_
    refine r_iald 326 dX15_operandSort_325 (fun _ _ _ => dsT_137 P W _) (fun _ _ => nn137) rfl ?_
    refine r_iconst 327 5 dX15_operandSort_326 rfl rfl ?_
    refine r_icmp_ne 345 330 dX15_operandSort_327 rfl rfl ?_ ?_
    · refine r_to [1, 3, 0] [(0, aR 100), (2, aI x2), (3, aI z28)] rfl ?_
      exact s_Tw_operandSort_b345 P W x2 z28 G29
    · refine r_aload_n 331 1 dX15_operandSort_330 rfl rfl rfl ?_
      refine r_get 334 (aR 143) dX15_operandSort_331 fkX15_81 (fun _ => dsT_100 P W _) nn100 rfl rfl ?_
      refine r_iload_n 335 0 dX15_operandSort_334 rfl rfl rfl ?_
      refine r_iald 336 dX15_operandSort_335 (fun _ _ _ => dsT_143 P W _) (fun _ _ => nn143) rfl ?_
      refine r_aload_n 337 1 dX15_operandSort_336 rfl rfl rfl ?_
      refine r_get 340 (aR 117) dX15_operandSort_337 fkX15_28 (fun _ => dsT_100 P W _) nn100 rfl rfl ?_
      refine r_iload_n 341 2 dX15_operandSort_340 rfl rfl rfl ?_
      refine r_iald 342 dX15_operandSort_341 (fun _ _ _ => dsT_117 P W _) (fun _ _ => nn117) rfl ?_
      refine r_icmp_eq 351 345 dX15_operandSort_342 rfl rfl ?_ ?_
      · refine r_to [1, 0] [(0, aR 100), (3, aI z28)] rfl ?_
        exact s_Tw_operandSort_b351 P W z28 G29
      · refine r_to [1, 3, 0] [(0, aR 100), (2, aI x2), (3, aI z28)] rfl ?_
        exact s_Tw_operandSort_b345 P W x2 z28 G29
theorem s_Tw_operandSort_b467 (P W : Int) (x1 : Int) (x2 : Int) (G : St) : SS (MTw_operandSort P W) some 467 [(0, aR 100), (1, aI x1), (2, aI x2)] [] G (Tw_operandSort_b467 x1 x2 G) := by
  refine r_aload_n 468 0 dX15_operandSort_467 rfl rfl rfl ?_
  refine r_dup 469 dX15_operandSort_468 rfl rfl ?_
  refine r_get 472 (aI (G 100 56)) dX15_operandSort_469 fkX15_549 (fun _ => dsT_100 P W _) nn100 rfl rfl ?_
  refine r_iconst 473 1 dX15_operandSort_472 rfl rfl ?_
  refine r_isub 474 dX15_operandSort_473 rfl ?_
  refine r_putI 477 dX15_operandSort_474 fkX15_549 (fun _ => dsT_100 P W _) nn100 rfl rfl ?_
  refine ss_tk (fun G35 => ?_)
  refine r_aload_n 478 0 dX15_operandSort_477 rfl rfl rfl ?_
  refine r_get 481 (aR 158) dX15_operandSort_478 fkX15_114 (fun _ => dsT_100 P W _) nn100 rfl rfl ?_
  refine r_aload_n 482 0 dX15_operandSort_481 rfl rfl rfl ?_
  refine r_get 485 (aI (G35 100 56)) dX15_operandSort_482 fkX15_549 (fun _ => dsT_100 P W _) nn100 rfl rfl ?_
  refine r_iald 486 dX15_operandSort_485 (fun _ _ _ => dsT_158 P W _) (fun _ _ => nn158) rfl ?_
  refine r_istore_n 487 [(3, aI (G35 158 (G35 100 56))), (0, aR 100), (1, aI x1), (2, aI x2)] dX15_operandSort_486 rfl rfl rfl rfl ?_
  refine r_aload_n 488 1 dX15_operandSort_487 rfl rfl rfl ?_
  refine r_iload_n 489 2 dX15_operandSort_488 rfl rfl rfl ?_
  refine r_iload_n 490 0 dX15_operandSort_489 rfl rfl rfl ?_
  refine r_callvV 493 (Mc := MTw_refer P W) (o := 100) (as := [aI x1, aI (G35 158 (G35 100 56))]) (st := []) dX15_operandSort_490 rfl (c_Tw_refer P W x1 (G35 158 (G35 100 56)) G35) lkX15_571 (cmTw_refer P W) rfl rfl rfl (fun _ => dsT_100 P W _) nn100 rfl (Nat.le_of_ble_eq_true rfl) (Nat.le_of_ble_eq_true rfl) (fun _ => rfl) rfl (fun z36 G37 => ?_)
  refine r_aload_n 494 1 dX15_operandSort_493 rfl rfl rfl ?_
  refine r_aload_n 495 1 dX15_operandSort_494 rfl rfl rfl ?_
  refine r_get 498 (aR 159) dX15_operandSort_495 fkX15_117 (fun _ => dsT_100 P W _) nn100 rfl rfl ?_
  refine r_aload_n 499 1 dX15_operandSort_498 rfl rfl rfl ?_
  refine r_get 502 (aI (G37 100 56)) dX15_operandSort_499 fkX15_549 (fun _ => dsT_100 P W _) nn100 rfl rfl ?_
  refine r_iald 503 dX15_operandSort_502 (fun _ _ _ => dsT_159 P W _) (fun _ _ => nn159) rfl ?_
  refine r_putI 506 dX15_operandSort_503 fkX15_540 (fun _ => dsT_100 P W _) nn100 rfl rfl ?_
  refine ss_tk (fun G38 => ?_)
  refine r_aload_n 507 1 dX15_operandSort_506 rfl rfl rfl ?_
  refine r_aload_n 508 1 dX15_operandSort_507 rfl rfl rfl ?_
  refine r_get 511 (aR 138) dX15_operandSort_508 fkX15_65 (fun _ => dsT_100 P W _) nn100 rfl rfl ?_
  refine r_iload_n 512 0 dX15_operandSort_511 rfl rfl rfl ?_
  refine r_iald 513 dX15_operandSort_512 (fun _ _ _ => dsT_138 P W _) (fun _ _ => nn138) rfl ?_
  refine r_iload_n 514 3 dX15_operandSort_513 rfl rfl rfl ?_
  refine r_iconst 515 0 dX15_operandSort_514 rfl rfl ?_
  refine r_callvV 518 (Mc := MTw_pile P W) (o := 100) (as := [aI (G38 138 (G35 158 (G35 100 56))), aI x2, aI 0]) (st := []) dX15_operandSort_515 rfl (c_Tw_pile P W (G38 138 (G35 158 (G35 100 56))) x2 0 G38) lkX15_564 (cmTw_pile P W) rfl rfl rfl (fun _ => dsT_100 P W _) nn100 rfl (Nat.le_of_ble_eq_true rfl) (Nat.le_of_ble_eq_true rfl) (fun _ => rfl) rfl (fun z39 G40 => ?_)
  refine r_goto 600 dX15_operandSort_518 rfl ?_
  exact r_return dX15_operandSort_600 rfl
theorem s_Tw_operandSort_b521 (P W : Int) (x2 : Int) (G : St) : SS (MTw_operandSort P W) some 521 [(0, aR 100), (2, aI x2)] [] G (Tw_operandSort_b521 x2 G) := by
  refine r_aload_n 522 0 dX15_operandSort_521 rfl rfl rfl ?_
  refine r_iconst 523 1 dX15_operandSort_522 rfl rfl ?_
  refine r_callvV 526 (Mc := MTw_must P W) (o := 100) (as := [aI 1]) (st := []) dX15_operandSort_523 rfl (c_Tw_must P W 1 G) lkX15_574 (cmTw_must P W) rfl rfl rfl (fun _ => dsT_100 P W _) nn100 rfl (Nat.le_of_ble_eq_true rfl) (Nat.le_of_ble_eq_true rfl) (fun _ => rfl) rfl (fun z41 G42 => ?_)
  refine r_aload_n 527 0 dX15_operandSort_526 rfl rfl rfl ?_
  refine r_get 530 (aR 146) dX15_operandSort_527 fkX15_87 (fun _ => dsT_100 P W _) nn100 rfl rfl ?_
  refine r_aload_n 531 0 dX15_operandSort_530 rfl rfl rfl ?_
  refine r_get 534 (aI (G42 100 43)) dX15_operandSort_531 fkX15_540 (fun _ => dsT_100 P W _) nn100 rfl rfl ?_
  refine r_iconst 535 1 dX15_operandSort_534 rfl rfl ?_
  refine r_isub 536 dX15_operandSort_535 rfl ?_
  refine r_iload_n 537 1 dX15_operandSort_536 rfl rfl rfl ?_
  refine r_iast 538 dX15_operandSort_537 (fun _ _ _ => dsT_146 P W _) (fun _ _ => nn146) rfl ?_
  refine ss_tk (fun G43 => ?_)
  refine r_aload_n 539 0 dX15_operandSort_538 rfl rfl rfl ?_
  refine r_get 542 (aR 145) dX15_operandSort_539 fkX15_84 (fun _ => dsT_100 P W _) nn100 rfl rfl ?_
  refine r_aload_n 543 0 dX15_operandSort_542 rfl rfl rfl ?_
  refine r_get 546 (aI (G43 100 43)) dX15_operandSort_543 fkX15_540 (fun _ => dsT_100 P W _) nn100 rfl rfl ?_
  refine r_iconst 547 1 dX15_operandSort_546 rfl rfl ?_
  refine r_isub 548 dX15_operandSort_547 rfl ?_
  refine r_iconst 549 0 dX15_operandSort_548 rfl rfl ?_
  refine r_iast 550 dX15_operandSort_549 (fun _ _ _ => dsT_145 P W _) (fun _ _ => nn145) rfl ?_
  refine ss_tk (fun G44 => ?_)
  refine r_goto 600 dX15_operandSort_550 rfl ?_
  exact r_return dX15_operandSort_600 rfl
theorem s_Tw_operandSort_b553 (P W : Int) (x1 : Int) (G : St) : SS (MTw_operandSort P W) some 553 [(0, aR 100), (1, aI x1)] [] G (Tw_operandSort_b553 x1 G) := by
  refine r_aload_n 554 0 dX15_operandSort_553 rfl rfl rfl ?_
  refine r_iload_n 555 1 dX15_operandSort_554 rfl rfl rfl ?_
  refine r_callvV 558 (Mc := MTw_bitSort P W) (o := 100) (as := [aI x1]) (st := []) dX15_operandSort_555 rfl (c_Tw_bitSort P W x1 G) lkX15_577 (cmTw_bitSort P W) rfl rfl rfl (fun _ => dsT_100 P W _) nn100 rfl (Nat.le_of_ble_eq_true rfl) (Nat.le_of_ble_eq_true rfl) (fun _ => rfl) rfl (fun z45 G46 => ?_)
  refine r_goto 600 dX15_operandSort_558 rfl ?_
  exact r_return dX15_operandSort_600 rfl
theorem s_Tw_operandSort_b561 (P W : Int) (x1 : Int) (G : St) : SS (MTw_operandSort P W) some 561 [(0, aR 100), (1, aI x1)] [] G (Tw_operandSort_b561 x1 G) := by
  refine r_aload_n 562 0 dX15_operandSort_561 rfl rfl rfl ?_
  refine r_iload_n 563 1 dX15_operandSort_562 rfl rfl rfl ?_
  refine r_callvV 566 (Mc := MTw_unarySort P W) (o := 100) (as := [aI x1]) (st := []) dX15_operandSort_563 rfl (c_Tw_unarySort P W x1 G) lkX15_580 (cmTw_unarySort P W) rfl rfl rfl (fun _ => dsT_100 P W _) nn100 rfl (Nat.le_of_ble_eq_true rfl) (Nat.le_of_ble_eq_true rfl) (fun _ => rfl) rfl (fun z47 G48 => ?_)
  refine r_goto 600 dX15_operandSort_566 rfl ?_
  exact r_return dX15_operandSort_600 rfl
theorem s_Tw_operandSort_b569 (P W : Int) (x1 : Int) (G : St) : SS (MTw_operandSort P W) some 569 [(0, aR 100), (1, aI x1)] [] G (Tw_operandSort_b569 x1 G) := by
  refine r_aload_n 570 0 dX15_operandSort_569 rfl rfl rfl ?_
  refine r_iload_n 571 1 dX15_operandSort_570 rfl rfl rfl ?_
  refine r_callvV 574 (Mc := MTw_binarySort P W) (o := 100) (as := [aI x1]) (st := []) dX15_operandSort_571 rfl (c_Tw_binarySort P W x1 G) lkX15_583 (cmTw_binarySort P W) rfl rfl rfl (fun _ => dsT_100 P W _) nn100 rfl (Nat.le_of_ble_eq_true rfl) (Nat.le_of_ble_eq_true rfl) (fun _ => rfl) rfl (fun z49 G50 => ?_)
  refine r_goto 600 dX15_operandSort_574 rfl ?_
  exact r_return dX15_operandSort_600 rfl
theorem s_Tw_operandSort_b577 (P W : Int) (x1 : Int) (G : St) : SS (MTw_operandSort P W) some 577 [(0, aR 100), (1, aI x1)] [] G (Tw_operandSort_b577 x1 G) := by
  refine r_aload_n 578 0 dX15_operandSort_577 rfl rfl rfl ?_
  refine r_iload_n 579 1 dX15_operandSort_578 rfl rfl rfl ?_
  refine r_callvV 582 (Mc := MTw_selectSort P W) (o := 100) (as := [aI x1]) (st := []) dX15_operandSort_579 rfl (c_Tw_selectSort P W x1 G) lkX15_586 (cmTw_selectSort P W) rfl rfl rfl (fun _ => dsT_100 P W _) nn100 rfl (Nat.le_of_ble_eq_true rfl) (Nat.le_of_ble_eq_true rfl) (fun _ => rfl) rfl (fun z51 G52 => ?_)
  refine r_goto 600 dX15_operandSort_582 rfl ?_
  exact r_return dX15_operandSort_600 rfl
theorem s_Tw_operandSort_b585 (P W : Int) (x2 : Int) (G : St) : SS (MTw_operandSort P W) some 585 [(0, aR 100), (2, aI x2)] [] G (Tw_operandSort_b585 x2 G) := by
  refine r_aload_n 586 0 dX15_operandSort_585 rfl rfl rfl ?_
  refine r_get 589 (aR 146) dX15_operandSort_586 fkX15_87 (fun _ => dsT_100 P W _) nn100 rfl rfl ?_
  refine r_aload_n 590 0 dX15_operandSort_589 rfl rfl rfl ?_
  refine r_get 593 (aI (G 100 43)) dX15_operandSort_590 fkX15_540 (fun _ => dsT_100 P W _) nn100 rfl rfl ?_
  refine r_iconst 594 1 dX15_operandSort_593 rfl rfl ?_
  refine r_isub 595 dX15_operandSort_594 rfl ?_
  refine r_iload_n 596 1 dX15_operandSort_595 rfl rfl rfl ?_
  refine r_iast 597 dX15_operandSort_596 (fun _ _ _ => dsT_146 P W _) (fun _ _ => nn146) rfl ?_
  refine ss_tk (fun G53 => ?_)
  refine r_goto 600 dX15_operandSort_597 rfl ?_
  exact r_return dX15_operandSort_600 rfl
theorem s_Tw_operandSort_b461 (P W : Int) (s0 : Int) (G : St) : SS (MTw_operandSort P W) some 461 [] [aI s0, aR 100] G (Tw_operandSort_b461 s0 G) := by
  refine r_callvV 464 (Mc := MTw_must P W) (o := 100) (as := [aI s0]) (st := []) dX15_operandSort_461 rfl (c_Tw_must P W s0 G) lkX15_574 (cmTw_must P W) rfl rfl rfl (fun _ => dsT_100 P W _) nn100 rfl (Nat.le_of_ble_eq_true rfl) (Nat.le_of_ble_eq_true rfl) (fun _ => rfl) rfl (fun z54 G55 => ?_)
  refine r_goto 600 dX15_operandSort_464 rfl ?_
  exact r_return dX15_operandSort_600 rfl
theorem s_Tw_operandSort_b411 (P W : Int) (x1 : Int) (s0 : Int) (G : St) : SS (MTw_operandSort P W) some 411 [(0, aR 100), (1, aI x1)] [aI s0] G (Tw_operandSort_b411 x1 s0 G) := by
  refine r_istore_n 412 [(3, aI s0), (0, aR 100), (1, aI x1)] dX15_operandSort_411 rfl rfl rfl rfl ?_
  refine r_aload_n 413 1 dX15_operandSort_412 rfl rfl rfl ?_
  refine r_get 416 (aI (G 100 43)) dX15_operandSort_413 fkX15_540 (fun _ => dsT_100 P W _) nn100 rfl rfl ?_
  refine r_iconst 417 1 dX15_operandSort_416 rfl rfl ?_
  refine r_isub 418 dX15_operandSort_417 rfl ?_
  refine r_aload_n 419 1 dX15_operandSort_418 rfl rfl rfl ?_
  refine r_get 422 (aR 159) dX15_operandSort_419 fkX15_117 (fun _ => dsT_100 P W _) nn100 rfl rfl ?_
  refine r_iload_n 423 0 dX15_operandSort_422 rfl rfl rfl ?_
  refine r_iald 424 dX15_operandSort_423 (fun _ _ _ => dsT_159 P W _) (fun _ _ => nn159) rfl ?_
  refine r_isub 425 dX15_operandSort_424 rfl ?_
  refine r_istore 427 [(4, aI (((G 100 43) - 1) - (G 159 s0))), (3, aI s0), (0, aR 100), (1, aI x1)] dX15_operandSort_425 rfl rfl rfl ?_
  refine r_aload_n 428 2 dX15_operandSort_427 rfl rfl rfl ?_
  refine r_aload_n 429 2 dX15_operandSort_428 rfl rfl rfl ?_
  refine r_get 432 (aR 116) dX15_operandSort_429 fkX15_25 (fun _ => dsT_100 P W _) nn100 rfl rfl ?_
  refine r_iload_n 433 3 dX15_operandSort_432 rfl rfl rfl ?_
  refine r_iald 434 dX15_operandSort_433 (fun _ _ _ => dsT_116 P W _) (fun _ _ => nn116) rfl ?_
  refine r_iconst 435 (-1) dX15_operandSort_434 rfl rfl ?_
  refine r_icmp_ne 442 438 dX15_operandSort_435 rfl rfl ?_ ?_
  · refine r_aload_n 443 2 dX15_operandSort_442 rfl rfl rfl ?_
    refine r_get 446 (aR 165) dX15_operandSort_443 fkX15_120 (fun _ => dsT_100 P W _) nn100 rfl rfl ?_
    refine r_aload_n 447 2 dX15_operandSort_446 rfl rfl rfl ?_
    refine r_get 450 (aR 142) dX15_operandSort_447 fkX15_78 (fun _ => dsT_100 P W _) nn100 rfl rfl ?_
    refine r_aload_n 451 2 dX15_operandSort_450 rfl rfl rfl ?_
    refine r_get 454 (aR 158) dX15_operandSort_451 fkX15_114 (fun _ => dsT_100 P W _) nn100 rfl rfl ?_
    refine r_iload_n 455 1 dX15_operandSort_454 rfl rfl rfl ?_
    refine r_iald 456 dX15_operandSort_455 (fun _ _ _ => dsT_158 P W _) (fun _ _ => nn158) rfl ?_
    refine r_iald 457 dX15_operandSort_456 (fun _ _ _ => dsT_142 P W _) (fun _ _ => nn142) rfl ?_
    refine r_iload 459 0 dX15_operandSort_457 rfl rfl ?_
    refine r_iadd 460 dX15_operandSort_459 rfl ?_
    refine r_iald 461 dX15_operandSort_460 (fun _ _ _ => dsT_165 P W _) (fun _ _ => nn165) rfl ?_
    refine r_to [] [] rfl ?_
    exact s_Tw_operandSort_b461 P W (G 165 ((G 142 (G 158 s0)) + (((G 100 43) - 1) - (G 159 s0)))) G
  · refine r_iconst 439 0 dX15_operandSort_438 rfl rfl ?_
    refine r_goto 461 dX15_operandSort_439 rfl ?_
    refine r_to [] [] rfl ?_
    exact s_Tw_operandSort_b461 P W 0 G
theorem s_Tw_operandSort_b394 (P W : Int) (x1 : Int) (G : St) : SS (MTw_operandSort P W) some 394 [(0, aR 100), (1, aI x1)] [] G (Tw_operandSort_b394 x1 G) := by
  refine r_aload_n 395 0 dX15_operandSort_394 rfl rfl rfl ?_
  refine r_get 398 (aI (G 100 56)) dX15_operandSort_395 fkX15_549 (fun _ => dsT_100 P W _) nn100 rfl rfl ?_
  refine r_if_le 410 401 dX15_operandSort_398 rfl rfl ?_ ?_
  · refine r_iconst 411 0 dX15_operandSort_410 rfl rfl ?_
    exact s_Tw_operandSort_b411 P W x1 0 G
  · refine r_aload_n 402 0 dX15_operandSort_401 rfl rfl rfl ?_
    refine r_get 405 (aI (G 100 56)) dX15_operandSort_402 fkX15_549 (fun _ => dsT_100 P W _) nn100 rfl rfl ?_
    refine r_iconst 406 1 dX15_operandSort_405 rfl rfl ?_
    refine r_isub 407 dX15_operandSort_406 rfl ?_
    refine r_goto 411 dX15_operandSort_407 rfl ?_
    exact s_Tw_operandSort_b411 P W x1 ((G 100 56) - 1) G
theorem s_Tw_operandSort (P W : Int) (x1 : Int) (G : St) : SS (MTw_operandSort P W) some 0 [(0, aR 100), (1, aI x1)] [] G (Tw_operandSort x1 G) := by
  refine r_aload_n 1 0 dX15_operandSort_0 rfl rfl rfl ?_
  refine r_get 4 (aR 118) dX15_operandSort_1 fkX15_31 (fun _ => dsT_100 P W _) nn100 rfl rfl ?_
  refine r_iload_n 5 1 dX15_operandSort_4 rfl rfl rfl ?_
  refine r_iald 6 dX15_operandSort_5 (fun _ _ _ => dsT_118 P W _) (fun _ _ => nn118) rfl ?_
  refine r_istore_n 7 [(2, aI (G 118 x1)), (0, aR 100), (1, aI x1)] dX15_operandSort_6 rfl rfl rfl rfl ?_
  refine r_aload_n 8 1 dX15_operandSort_7 rfl rfl rfl ?_
  refine r_get 11 (aR 115) dX15_operandSort_8 fkX15_22 (fun _ => dsT_100 P W _) nn100 rfl rfl ?_
  refine r_iload_n 12 2 dX15_operandSort_11 rfl rfl rfl ?_
  refine r_iald 13 dX15_operandSort_12 (fun _ _ _ => dsT_115 P W _) (fun _ _ => nn115) rfl ?_
  refine r_tsw 600 [(88, Tw_operandSort_b88 (G 118 x1) G), (98, Tw_operandSort_b98 (G 118 x1) G), (98, Tw_operandSort_b98 (G 118 x1) G), (108, Tw_operandSort_b108 x1 (G 118 x1) G), (188, Tw_operandSort_b188 x1 (G 118 x1) G), (219, Tw_operandSort_b219 x1 (G 118 x1) G), (307, Tw_operandSort_b307 x1 (G 118 x1) G), (467, Tw_operandSort_b467 x1 (G 118 x1) G), (521, Tw_operandSort_b521 (G 118 x1) G), (553, Tw_operandSort_b553 x1 G), (561, Tw_operandSort_b561 x1 G), (569, Tw_operandSort_b569 x1 G), (577, Tw_operandSort_b577 x1 G), (585, Tw_operandSort_b585 (G 118 x1) G), (394, Tw_operandSort_b394 x1 G)] dX15_operandSort_13 rfl rfl rfl ⟨?_, ?_, ?_, ?_, ?_, ?_, ?_, ?_, ?_, ?_, ?_, ?_, ?_, ?_, ?_, trivial⟩ ?_
  · refine r_to [1, 0] [(0, aR 100), (2, aI (G 118 x1))] rfl ?_
    exact s_Tw_operandSort_b88 P W (G 118 x1) G
  · refine r_to [1, 0] [(0, aR 100), (2, aI (G 118 x1))] rfl ?_
    exact s_Tw_operandSort_b98 P W (G 118 x1) G
  · refine r_to [1, 0] [(0, aR 100), (2, aI (G 118 x1))] rfl ?_
    exact s_Tw_operandSort_b98 P W (G 118 x1) G
  · refine r_to [1, 2, 0] [(0, aR 100), (1, aI x1), (2, aI (G 118 x1))] rfl ?_
    exact s_Tw_operandSort_b108 P W x1 (G 118 x1) G
  · refine r_to [1, 2, 0] [(0, aR 100), (1, aI x1), (2, aI (G 118 x1))] rfl ?_
    exact s_Tw_operandSort_b188 P W x1 (G 118 x1) G
  · refine r_to [1, 2, 0] [(0, aR 100), (1, aI x1), (2, aI (G 118 x1))] rfl ?_
    exact s_Tw_operandSort_b219 P W x1 (G 118 x1) G
  · refine r_to [1, 2, 0] [(0, aR 100), (1, aI x1), (2, aI (G 118 x1))] rfl ?_
    exact s_Tw_operandSort_b307 P W x1 (G 118 x1) G
  · refine r_to [1, 2, 0] [(0, aR 100), (1, aI x1), (2, aI (G 118 x1))] rfl ?_
    exact s_Tw_operandSort_b467 P W x1 (G 118 x1) G
  · refine r_to [1, 0] [(0, aR 100), (2, aI (G 118 x1))] rfl ?_
    exact s_Tw_operandSort_b521 P W (G 118 x1) G
  · refine r_to [1, 2] [(0, aR 100), (1, aI x1)] rfl ?_
    exact s_Tw_operandSort_b553 P W x1 G
  · refine r_to [1, 2] [(0, aR 100), (1, aI x1)] rfl ?_
    exact s_Tw_operandSort_b561 P W x1 G
  · refine r_to [1, 2] [(0, aR 100), (1, aI x1)] rfl ?_
    exact s_Tw_operandSort_b569 P W x1 G
  · refine r_to [1, 2] [(0, aR 100), (1, aI x1)] rfl ?_
    exact s_Tw_operandSort_b577 P W x1 G
  · refine r_to [1, 0] [(0, aR 100), (2, aI (G 118 x1))] rfl ?_
    exact s_Tw_operandSort_b585 P W (G 118 x1) G
  · refine r_to [1, 2] [(0, aR 100), (1, aI x1)] rfl ?_
    exact s_Tw_operandSort_b394 P W x1 G
  · exact r_return dX15_operandSort_600 rfl
theorem c_Tw_operandSort (P W : Int) (x1 : Int) (G : St) : MG (MTw_operandSort P W) [aR 100, aI x1] G (Tw_operandSort x1 G) := MG.of plX15 (Nat.le_of_ble_eq_true rfl) (s_Tw_operandSort P W x1 G)
theorem s_Tw_assigned_b59 (P W : Int) (x1 : Int) (G : St) : SS (MTw_assigned P W) some 59 [(0, aR 100), (1, aI x1)] [] G (Tw_assigned_b59 x1 G) := by
  refine r_aload_n 60 0 dX15_assigned_59 rfl rfl rfl ?_
  refine r_iconst 61 5 dX15_assigned_60 rfl rfl ?_
  refine r_aload_n 62 0 dX15_assigned_61 rfl rfl rfl ?_
  refine r_get 65 (aR 118) dX15_assigned_62 fkX15_31 (fun _ => dsT_100 P W _) nn100 rfl rfl ?_
  refine r_iload_n 66 1 dX15_assigned_65 rfl rfl rfl ?_
  refine r_iald 67 dX15_assigned_66 (fun _ _ _ => dsT_118 P W _) (fun _ _ => nn118) rfl ?_
  refine r_callvV 70 (Mc := MTw_fail P W) (o := 100) (as := [aI 5, aI (G 118 x1)]) (st := []) dX15_assigned_67 rfl (c_Tw_fail P W 5 (G 118 x1) G) lkX15_390 (cmTw_fail P W) rfl rfl rfl (fun _ => dsT_100 P W _) nn100 rfl (Nat.le_of_ble_eq_true rfl) (Nat.le_of_ble_eq_true rfl) (fun _ => rfl) rfl (fun z3 G4 => ?_)
  exact r_return dX15_assigned_70 rfl
theorem s_Tw_assigned_b56 (P W : Int) (x1 : Int) (s0 : Int) (s1 : Int) (G : St) : SS (MTw_assigned P W) some 56 [(0, aR 100), (1, aI x1)] [aI s0, aI s1] G (Tw_assigned_b56 x1 s0 s1 G) := by
  refine r_icmp_eq 70 59 dX15_assigned_56 rfl rfl ?_ ?_
  · exact r_return dX15_assigned_70 rfl
  · exact s_Tw_assigned_b59 P W x1 G
theorem s_Tw_assigned_b28 (P W : Int) (x1 : Int) (x2 : Int) (s0 : Int) (G : St) : SS (MTw_assigned P W) some 28 [(0, aR 100), (1, aI x1), (2, aI x2)] [aI s0] G (Tw_assigned_b28 x1 x2 s0 G) := by
  refine r_istore_n 29 [(3, aI s0), (0, aR 100), (1, aI x1), (2, aI x2)] dX15_assigned_28 rfl rfl rfl rfl ?_
  refine r_aload_n 30 1 dX15_assigned_29 rfl rfl rfl ?_
  refine r_get 33 (aR 137) dX15_assigned_30 fkX15_62 (fun _ => dsT_100 P W _) nn100 rfl rfl ?_
  refine r_iload_n 34 3 dX15_assigned_33 rfl rfl rfl ?_
  refine r_iald 35 dX15_assigned_34 (fun _ _ _ => dsT_137 P W _) (fun _ _ => nn137) rfl ?_
  refine r_iconst 36 2 dX15_assigned_35 rfl rfl ?_
  refine r_icmp_ne 59 39 dX15_assigned_36 rfl rfl ?_ ?_
  · refine r_to [1, 2] [(0, aR 100), (1, aI x1)] rfl ?_
    exact s_Tw_assigned_b59 P W x1 G
  · refine r_iload_n 40 0 dX15_assigned_39 rfl rfl rfl ?_
    refine r_aload_n 41 1 dX15_assigned_40 rfl rfl rfl ?_
    refine r_get 44 (aR 115) dX15_assigned_41 fkX15_22 (fun _ => dsT_100 P W _) nn100 rfl rfl ?_
    refine r_iload_n 45 2 dX15_assigned_44 rfl rfl rfl ?_
    refine r_iald 46 dX15_assigned_45 (fun _ _ _ => dsT_115 P W _) (fun _ _ => nn115) rfl ?_
    refine r_bipush 48 33 dX15_assigned_46 rfl rfl ?_
    refine SS.phi (fun VV_ => Tw_assigned_b56 x1 VV_ s0 G) ?_
    refine r_icmp_ne 55 51 dX15_assigned_48 rfl rfl ?_ ?_
    · refine r_iconst 56 0 dX15_assigned_55 rfl rfl ?_
      refine r_to [1, 2] [(0, aR 100), (1, aI x1)] rfl ?_
      exact s_Tw_assigned_b56 P W x1 0 s0 G
    · refine r_iconst 52 1 dX15_assigned_51 rfl rfl ?_
      refine r_goto 56 dX15_assigned_52 rfl ?_
      refine r_to [1, 2] [(0, aR 100), (1, aI x1)] rfl ?_
      exact s_Tw_assigned_b56 P W x1 1 s0 G
theorem s_Tw_assigned (P W : Int) (x1 : Int) (G : St) : SS (MTw_assigned P W) some 0 [(0, aR 100), (1, aI x1)] [] G (Tw_assigned x1 G) := by
  refine r_aload_n 1 0 dX15_assigned_0 rfl rfl rfl ?_
  refine r_iload_n 2 1 dX15_assigned_1 rfl rfl rfl ?_
  refine r_callvI 5 (Mc := MTw_used P W) (o := 100) (as := [aI x1]) (st := []) dX15_assigned_2 rfl (c_Tw_used P W x1 G) lkX15_568 (cmTw_used P W) rfl rfl rfl (fun _ => dsT_100 P W _) nn100 rfl (Nat.le_of_ble_eq_true rfl) (Nat.le_of_ble_eq_true rfl) (fun _ => rfl) rfl (fun z1 G2 => ?_)
  refine r_istore_n 6 [(2, aI z1), (0, aR 100), (1, aI x1)] dX15_assigned_5 rfl rfl rfl rfl ?_
  refine r_aload_n 7 1 dX15_assigned_6 rfl rfl rfl ?_
  refine r_get 10 (aI (G2 100 7)) dX15_assigned_7 fkX15_323 (fun _ => dsT_100 P W _) nn100 rfl rfl ?_
  refine r_if_le 14 13 dX15_assigned_10 rfl rfl ?_ ?_
  · refine r_aload_n 15 1 dX15_assigned_14 rfl rfl rfl ?_
    refine r_get 18 (aR 139) dX15_assigned_15 fkX15_68 (fun _ => dsT_100 P W _) nn100 rfl rfl ?_
    refine r_iload_n 19 0 dX15_assigned_18 rfl rfl rfl ?_
    refine r_iald 20 dX15_assigned_19 (fun _ _ _ => dsT_139 P W _) (fun _ _ => nn139) rfl ?_
    refine SS.phi (fun VV_ => Tw_assigned_b28 x1 z1 VV_ G2) ?_
    refine r_if_le 27 23 dX15_assigned_20 rfl rfl ?_ ?_
    · refine r_iconst 28 0 dX15_assigned_27 rfl rfl ?_
      refine r_to [1, 2, 0] [(0, aR 100), (1, aI x1), (2, aI z1)] rfl ?_
      exact s_Tw_assigned_b28 P W x1 z1 0 G2
    · refine r_iconst 24 1 dX15_assigned_23 rfl rfl ?_
      refine r_goto 28 dX15_assigned_24 rfl ?_
      refine r_to [1, 2, 0] [(0, aR 100), (1, aI x1), (2, aI z1)] rfl ?_
      exact s_Tw_assigned_b28 P W x1 z1 1 G2
  · exact r_return dX15_assigned_13 rfl
theorem c_Tw_assigned (P W : Int) (x1 : Int) (G : St) : MG (MTw_assigned P W) [aR 100, aI x1] G (Tw_assigned x1 G) := MG.of plX15 (Nat.le_of_ble_eq_true rfl) (s_Tw_assigned P W x1 G)
theorem s_Tw_comes (P W : Int) (x1 : Int) (G : St) : SS (MTw_comes P W) some 0 [(0, aR 100), (1, aI x1)] [] G (Tw_comes x1 G) := by
  refine r_aload_n 1 0 dX15_comes_0 rfl rfl rfl ?_
  refine r_aload_n 2 0 dX15_comes_1 rfl rfl rfl ?_
  refine r_get 5 (aR 116) dX15_comes_2 fkX15_25 (fun _ => dsT_100 P W _) nn100 rfl rfl ?_
  refine r_iload_n 6 1 dX15_comes_5 rfl rfl rfl ?_
  refine r_iald 7 dX15_comes_6 (fun _ _ _ => dsT_116 P W _) (fun _ _ => nn116) rfl ?_
  refine r_callvI 10 (Mc := MTw_visible P W) (o := 100) (as := [aI (G 116 x1)]) (st := []) dX15_comes_7 rfl (c_Tw_visible P W (G 116 x1) G) lkX15_543 (cmTw_visible P W) rfl rfl rfl (fun _ => dsT_100 P W _) nn100 rfl (Nat.le_of_ble_eq_true rfl) (Nat.le_of_ble_eq_true rfl) (fun _ => rfl) rfl (fun z1 G2 => ?_)
  refine r_iconst 11 (-1) dX15_comes_10 rfl rfl ?_
  refine r_icmp_eq 25 14 dX15_comes_11 rfl rfl ?_ ?_
  · exact r_return dX15_comes_25 rfl
  · refine r_aload_n 15 0 dX15_comes_14 rfl rfl rfl ?_
    refine r_iconst 16 4 dX15_comes_15 rfl rfl ?_
    refine r_aload_n 17 0 dX15_comes_16 rfl rfl rfl ?_
    refine r_get 20 (aR 118) dX15_comes_17 fkX15_31 (fun _ => dsT_100 P W _) nn100 rfl rfl ?_
    refine r_iload_n 21 1 dX15_comes_20 rfl rfl rfl ?_
    refine r_iald 22 dX15_comes_21 (fun _ _ _ => dsT_118 P W _) (fun _ _ => nn118) rfl ?_
    refine r_callvV 25 (Mc := MTw_fail P W) (o := 100) (as := [aI 4, aI (G2 118 x1)]) (st := []) dX15_comes_22 rfl (c_Tw_fail P W 4 (G2 118 x1) G2) lkX15_390 (cmTw_fail P W) rfl rfl rfl (fun _ => dsT_100 P W _) nn100 rfl (Nat.le_of_ble_eq_true rfl) (Nat.le_of_ble_eq_true rfl) (fun _ => rfl) rfl (fun z3 G4 => ?_)
    exact r_return dX15_comes_25 rfl
theorem c_Tw_comes (P W : Int) (x1 : Int) (G : St) : MG (MTw_comes P W) [aR 100, aI x1] G (Tw_comes x1 G) := MG.of plX15 (Nat.le_of_ble_eq_true rfl) (s_Tw_comes P W x1 G)
theorem s_Tw_elementSort (P W : Int) (x1 : Int) (G : St) : SS (MTw_elementSort P W) some 0 [(0, aR 100), (1, aI x1)] [] G (Tw_elementSort x1 G) := by
  refine r_aload_n 1 0 dX15_elementSort_0 rfl rfl rfl ?_
  refine r_aload_n 2 0 dX15_elementSort_1 rfl rfl rfl ?_
  refine r_get 5 (aR 116) dX15_elementSort_2 fkX15_25 (fun _ => dsT_100 P W _) nn100 rfl rfl ?_
  refine r_iload_n 6 1 dX15_elementSort_5 rfl rfl rfl ?_
  refine r_iald 7 dX15_elementSort_6 (fun _ _ _ => dsT_116 P W _) (fun _ _ => nn116) rfl ?_
  refine r_callvI 10 (Mc := MTw_visible P W) (o := 100) (as := [aI (G 116 x1)]) (st := []) dX15_elementSort_7 rfl (c_Tw_visible P W (G 116 x1) G) lkX15_543 (cmTw_visible P W) rfl rfl rfl (fun _ => dsT_100 P W _) nn100 rfl (Nat.le_of_ble_eq_true rfl) (Nat.le_of_ble_eq_true rfl) (fun _ => rfl) rfl (fun z1 G2 => ?_)
  refine r_istore_n 11 [(2, aI z1), (0, aR 100), (1, aI x1)] dX15_elementSort_10 rfl rfl rfl rfl ?_
  refine r_aload_n 12 1 dX15_elementSort_11 rfl rfl rfl ?_
  refine r_aload_n 13 1 dX15_elementSort_12 rfl rfl rfl ?_
  refine r_get 16 (aR 138) dX15_elementSort_13 fkX15_65 (fun _ => dsT_100 P W _) nn100 rfl rfl ?_
  refine r_iload_n 17 0 dX15_elementSort_16 rfl rfl rfl ?_
  refine r_iald 18 dX15_elementSort_17 (fun _ _ _ => dsT_138 P W _) (fun _ _ => nn138) rfl ?_
  refine r_callvV 21 (Mc := MTw_must P W) (o := 100) (as := [aI (G2 138 z1)]) (st := []) dX15_elementSort_18 rfl (c_Tw_must P W (G2 138 z1) G2) lkX15_574 (cmTw_must P W) rfl rfl rfl (fun _ => dsT_100 P W _) nn100 rfl (Nat.le_of_ble_eq_true rfl) (Nat.le_of_ble_eq_true rfl) (fun _ => rfl) rfl (fun z3 G4 => ?_)
  refine r_aload_n 22 1 dX15_elementSort_21 rfl rfl rfl ?_
  refine r_dup 23 dX15_elementSort_22 rfl rfl ?_
  refine r_get 26 (aI (G4 100 43)) dX15_elementSort_23 fkX15_540 (fun _ => dsT_100 P W _) nn100 rfl rfl ?_
  refine r_iconst 27 2 dX15_elementSort_26 rfl rfl ?_
  refine r_isub 28 dX15_elementSort_27 rfl ?_
  refine r_putI 31 dX15_elementSort_28 fkX15_540 (fun _ => dsT_100 P W _) nn100 rfl rfl ?_
  refine ss_tk (fun G5 => ?_)
  refine r_aload_n 32 1 dX15_elementSort_31 rfl rfl rfl ?_
  refine r_iload_n 33 2 dX15_elementSort_32 rfl rfl rfl ?_
  refine r_iload_n 34 0 dX15_elementSort_33 rfl rfl rfl ?_
  refine r_callvV 37 (Mc := MTw_refer P W) (o := 100) (as := [aI x1, aI z1]) (st := []) dX15_elementSort_34 rfl (c_Tw_refer P W x1 z1 G5) lkX15_571 (cmTw_refer P W) rfl rfl rfl (fun _ => dsT_100 P W _) nn100 rfl (Nat.le_of_ble_eq_true rfl) (Nat.le_of_ble_eq_true rfl) (fun _ => rfl) rfl (fun z6 G7 => ?_)
  refine r_aload_n 38 1 dX15_elementSort_37 rfl rfl rfl ?_
  refine r_get 41 (aR 156) dX15_elementSort_38 fkX15_111 (fun _ => dsT_100 P W _) nn100 rfl rfl ?_
  refine r_iload_n 42 2 dX15_elementSort_41 rfl rfl rfl ?_
  refine r_aload_n 43 1 dX15_elementSort_42 rfl rfl rfl ?_
  refine r_get 46 (aR 147) dX15_elementSort_43 fkX15_90 (fun _ => dsT_100 P W _) nn100 rfl rfl ?_
  refine r_aload_n 47 1 dX15_elementSort_46 rfl rfl rfl ?_
  refine r_get 50 (aI (G7 100 43)) dX15_elementSort_47 fkX15_540 (fun _ => dsT_100 P W _) nn100 rfl rfl ?_
  refine r_zald 51 dX15_elementSort_50 (fun _ _ _ => dsT_147 P W _) (fun _ _ => nn147) rfl ?_
  refine r_zast 52 dX15_elementSort_51 (fun _ _ _ => dsT_156 P W _) (fun _ _ => nn156) rfl ?_
  refine ss_tk (fun G8 => ?_)
  exact r_return dX15_elementSort_52 rfl
theorem c_Tw_elementSort (P W : Int) (x1 : Int) (G : St) : MG (MTw_elementSort P W) [aR 100, aI x1] G (Tw_elementSort x1 G) := MG.of plX15 (Nat.le_of_ble_eq_true rfl) (s_Tw_elementSort P W x1 G)
theorem s_Tw_symbol (P W : Int) (x1 : Int) (x2 : Int) (x3 : Int) (x4 : Int) (x5 : Int) (G : St) : SS (MTw_symbol P W) some 0 [(0, aR 100), (1, aI x1), (2, aI x2), (3, aI x3), (4, aI x4), (5, aI x5)] [] G (Tw_symbol x1 x2 x3 x4 x5 G) := by
  refine r_aload_n 1 0 dX15_symbol_0 rfl rfl rfl ?_
  refine r_get 4 (aR 136) dX15_symbol_1 fkX15_59 (fun _ => dsT_100 P W _) nn100 rfl rfl ?_
  refine r_aload_n 5 0 dX15_symbol_4 rfl rfl rfl ?_
  refine r_get 8 (aI (G 100 34)) dX15_symbol_5 fkX15_534 (fun _ => dsT_100 P W _) nn100 rfl rfl ?_
  refine r_iload_n 9 1 dX15_symbol_8 rfl rfl rfl ?_
  refine r_iast 10 dX15_symbol_9 (fun _ _ _ => dsT_136 P W _) (fun _ _ => nn136) rfl ?_
  refine ss_tk (fun G1 => ?_)
  refine r_aload_n 11 0 dX15_symbol_10 rfl rfl rfl ?_
  refine r_get 14 (aR 137) dX15_symbol_11 fkX15_62 (fun _ => dsT_100 P W _) nn100 rfl rfl ?_
  refine r_aload_n 15 0 dX15_symbol_14 rfl rfl rfl ?_
  refine r_get 18 (aI (G1 100 34)) dX15_symbol_15 fkX15_534 (fun _ => dsT_100 P W _) nn100 rfl rfl ?_
  refine r_iload_n 19 2 dX15_symbol_18 rfl rfl rfl ?_
  refine r_iast 20 dX15_symbol_19 (fun _ _ _ => dsT_137 P W _) (fun _ _ => nn137) rfl ?_
  refine ss_tk (fun G2 => ?_)
  refine r_aload_n 21 0 dX15_symbol_20 rfl rfl rfl ?_
  refine r_get 24 (aR 138) dX15_symbol_21 fkX15_65 (fun _ => dsT_100 P W _) nn100 rfl rfl ?_
  refine r_aload_n 25 0 dX15_symbol_24 rfl rfl rfl ?_
  refine r_get 28 (aI (G2 100 34)) dX15_symbol_25 fkX15_534 (fun _ => dsT_100 P W _) nn100 rfl rfl ?_
  refine r_iload_n 29 3 dX15_symbol_28 rfl rfl rfl ?_
  refine r_iast 30 dX15_symbol_29 (fun _ _ _ => dsT_138 P W _) (fun _ _ => nn138) rfl ?_
  refine ss_tk (fun G3 => ?_)
  refine r_aload_n 31 0 dX15_symbol_30 rfl rfl rfl ?_
  refine r_get 34 (aR 139) dX15_symbol_31 fkX15_68 (fun _ => dsT_100 P W _) nn100 rfl rfl ?_
  refine r_aload_n 35 0 dX15_symbol_34 rfl rfl rfl ?_
  refine r_get 38 (aI (G3 100 34)) dX15_symbol_35 fkX15_534 (fun _ => dsT_100 P W _) nn100 rfl rfl ?_
  refine r_iload 40 4 dX15_symbol_38 rfl rfl ?_
  refine r_iast 41 dX15_symbol_40 (fun _ _ _ => dsT_139 P W _) (fun _ _ => nn139) rfl ?_
  refine ss_tk (fun G4 => ?_)
  refine r_aload_n 42 0 dX15_symbol_41 rfl rfl rfl ?_
  refine r_get 45 (aR 140) dX15_symbol_42 fkX15_71 (fun _ => dsT_100 P W _) nn100 rfl rfl ?_
  refine r_aload_n 46 0 dX15_symbol_45 rfl rfl rfl ?_
  refine r_get 49 (aI (G4 100 34)) dX15_symbol_46 fkX15_534 (fun _ => dsT_100 P W _) nn100 rfl rfl ?_
  refine r_iload 51 5 dX15_symbol_49 rfl rfl ?_
  refine r_iast 52 dX15_symbol_51 (fun _ _ _ => dsT_140 P W _) (fun _ _ => nn140) rfl ?_
  refine ss_tk (fun G5 => ?_)
  refine r_aload_n 53 0 dX15_symbol_52 rfl rfl rfl ?_
  refine r_get 56 (aR 141) dX15_symbol_53 fkX15_74 (fun _ => dsT_100 P W _) nn100 rfl rfl ?_
  refine r_aload_n 57 0 dX15_symbol_56 rfl rfl rfl ?_
  refine r_get 60 (aI (G5 100 34)) dX15_symbol_57 fkX15_534 (fun _ => dsT_100 P W _) nn100 rfl rfl ?_
  refine r_iconst 61 1 dX15_symbol_60 rfl rfl ?_
  refine r_zast 62 dX15_symbol_61 (fun _ _ _ => dsT_141 P W _) (fun _ _ => nn141) rfl ?_
  refine ss_tk (fun G6 => ?_)
  refine r_aload_n 63 0 dX15_symbol_62 rfl rfl rfl ?_
  refine r_dup 64 dX15_symbol_63 rfl rfl ?_
  refine r_get 67 (aI (G6 100 34)) dX15_symbol_64 fkX15_534 (fun _ => dsT_100 P W _) nn100 rfl rfl ?_
  refine r_iconst 68 1 dX15_symbol_67 rfl rfl ?_
  refine r_iadd 69 dX15_symbol_68 rfl ?_
  refine r_putI 72 dX15_symbol_69 fkX15_534 (fun _ => dsT_100 P W _) nn100 rfl rfl ?_
  refine ss_tk (fun G7 => ?_)
  refine r_aload_n 73 0 dX15_symbol_72 rfl rfl rfl ?_
  refine r_get 76 (aI (G7 100 34)) dX15_symbol_73 fkX15_534 (fun _ => dsT_100 P W _) nn100 rfl rfl ?_
  refine r_iconst 77 1 dX15_symbol_76 rfl rfl ?_
  refine r_isub 78 dX15_symbol_77 rfl ?_
  exact r_ireturn dX15_symbol_78 rfl
theorem c_Tw_symbol (P W : Int) (x1 : Int) (x2 : Int) (x3 : Int) (x4 : Int) (x5 : Int) (G : St) : MG (MTw_symbol P W) [aR 100, aI x1, aI x2, aI x3, aI x4, aI x5] G (Tw_symbol x1 x2 x3 x4 x5 G) := MG.of plX15 (Nat.le_of_ble_eq_true rfl) (s_Tw_symbol P W x1 x2 x3 x4 x5 G)
theorem s_Tw_paramSort_b121 (P W : Int) (x1 : Int) (G : St) : SS (MTw_paramSort P W) some 121 [(0, aR 100), (1, aI x1)] [] G (Tw_paramSort_b121 x1 G) := by
  refine r_aload_n 122 0 dX15_paramSort_121 rfl rfl rfl ?_
  refine r_iconst 123 4 dX15_paramSort_122 rfl rfl ?_
  refine r_aload_n 124 0 dX15_paramSort_123 rfl rfl rfl ?_
  refine r_get 127 (aR 118) dX15_paramSort_124 fkX15_31 (fun _ => dsT_100 P W _) nn100 rfl rfl ?_
  refine r_iload_n 128 1 dX15_paramSort_127 rfl rfl rfl ?_
  refine r_iald 129 dX15_paramSort_128 (fun _ _ _ => dsT_118 P W _) (fun _ _ => nn118) rfl ?_
  refine r_callvV 132 (Mc := MTw_fail P W) (o := 100) (as := [aI 4, aI (G 118 x1)]) (st := []) dX15_paramSort_129 rfl (c_Tw_fail P W 4 (G 118 x1) G) lkX15_390 (cmTw_fail P W) rfl rfl rfl (fun _ => dsT_100 P W _) nn100 rfl (Nat.le_of_ble_eq_true rfl) (Nat.le_of_ble_eq_true rfl) (fun _ => rfl) rfl (fun z1 G2 => ?_)
  exact r_return dX15_paramSort_132 rfl
theorem s_Tw_paramSort_b106 (P W : Int) (x1 : Int) (x2 : Int) (X51 : Int × Int × St → Option (Int × St)) (hX51 : ∀ s, So (MTw_paramSort P W) 51 [(0, aR 100), (1, aI x1), (2, aI x2), (3, aI (s.1)), (4, aI (s.2.1))] [] s.2.2 (X51 s)) (x4 : Int) (s0 : Int) (G : St) : SS (MTw_paramSort P W) (lk X51 some) 106 [(0, aR 100), (1, aI x1), (2, aI x2), (4, aI x4)] [aI s0] G (Tw_paramSort_b106 x1 x2 x4 s0 G) := by
  refine r_istore_n 107 [(3, aI s0), (0, aR 100), (1, aI x1), (2, aI x2), (4, aI x4)] dX15_paramSort_106 rfl rfl rfl rfl ?_
  refine r_iinc 110 [(4, aI (x4 + 1)), (3, aI s0), (0, aR 100), (1, aI x1), (2, aI x2)] 4 dX15_paramSort_107 rfl rfl rfl rfl ?_
  refine r_goto 51 dX15_paramSort_110 rfl ?_
  refine r_to [2, 3, 4, 1, 0] [(0, aR 100), (1, aI x1), (2, aI x2), (3, aI s0), (4, aI (x4 + 1))] rfl ?_
  exact SS.back (hX51 (s0, x4 + 1, G))
theorem s_Tw_paramSort_s51 (P W : Int) (x1 : Int) (x2 : Int) (X51 : Int × Int × St → Option (Int × St)) (hX51 : ∀ s, So (MTw_paramSort P W) 51 [(0, aR 100), (1, aI x1), (2, aI x2), (3, aI (s.1)), (4, aI (s.2.1))] [] s.2.2 (X51 s)) (x3 : Int) (x4 : Int) (G : St) : SS (MTw_paramSort P W) (lk X51 some) 51 [(0, aR 100), (1, aI x1), (2, aI x2), (3, aI x3), (4, aI x4)] [] G (Tw_paramSort_s51 x1 x2 x3 x4 G) := by
  refine r_iload 53 4 dX15_paramSort_51 rfl rfl ?_
  refine r_aload_n 54 0 dX15_paramSort_53 rfl rfl rfl ?_
  refine r_get 57 (aI (G 100 62)) dX15_paramSort_54 fkX15_598 (fun _ => dsT_100 P W _) nn100 rfl rfl ?_
  refine r_icmp_ge 113 60 dX15_paramSort_57 rfl rfl ?_ ?_
  · refine SS.ex ?_
    refine r_iload_n 114 2 dX15_paramSort_113 rfl rfl rfl ?_
    refine r_if_ne 121 117 dX15_paramSort_114 rfl rfl ?_ ?_
    · refine r_to [0, 1] [(0, aR 100), (1, aI x1)] rfl ?_
      exact s_Tw_paramSort_b121 P W x1 G
    · refine r_iload_n 118 3 dX15_paramSort_117 rfl rfl rfl ?_
      refine r_if_eq 133 121 dX15_paramSort_118 rfl rfl ?_ ?_
      · refine r_aload_n 134 0 dX15_paramSort_133 rfl rfl rfl ?_
        refine r_get 137 (aR 165) dX15_paramSort_134 fkX15_120 (fun _ => dsT_100 P W _) nn100 rfl rfl ?_
        refine r_aload_n 138 0 dX15_paramSort_137 rfl rfl rfl ?_
        refine r_get 141 (aI (G 100 60)) dX15_paramSort_138 fkX15_552 (fun _ => dsT_100 P W _) nn100 rfl rfl ?_
        refine r_aload_n 142 0 dX15_paramSort_141 rfl rfl rfl ?_
        refine r_get 145 (aR 117) dX15_paramSort_142 fkX15_28 (fun _ => dsT_100 P W _) nn100 rfl rfl ?_
        refine r_iload_n 146 1 dX15_paramSort_145 rfl rfl rfl ?_
        refine r_iald 147 dX15_paramSort_146 (fun _ _ _ => dsT_117 P W _) (fun _ _ => nn117) rfl ?_
        refine r_iast 148 dX15_paramSort_147 (fun _ _ _ => dsT_165 P W _) (fun _ _ => nn165) rfl ?_
        refine ss_tk (fun G3 => ?_)
        refine r_aload_n 149 0 dX15_paramSort_148 rfl rfl rfl ?_
        refine r_dup 150 dX15_paramSort_149 rfl rfl ?_
        refine r_get 153 (aI (G3 100 60)) dX15_paramSort_150 fkX15_552 (fun _ => dsT_100 P W _) nn100 rfl rfl ?_
        refine r_iconst 154 1 dX15_paramSort_153 rfl rfl ?_
        refine r_iadd 155 dX15_paramSort_154 rfl ?_
        refine r_putI 158 dX15_paramSort_155 fkX15_552 (fun _ => dsT_100 P W _) nn100 rfl rfl ?_
        refine ss_tk (fun G4 => ?_)
        refine r_aload_n 159 0 dX15_paramSort_158 rfl rfl rfl ?_
        refine r_aload_n 160 0 dX15_paramSort_159 rfl rfl rfl ?_
        refine r_get 163 (aR 116) dX15_paramSort_160 fkX15_25 (fun _ => dsT_100 P W _) nn100 rfl rfl ?_
        refine r_iload_n 164 1 dX15_paramSort_163 rfl rfl rfl ?_
        refine r_iald 165 dX15_paramSort_164 (fun _ _ _ => dsT_116 P W _) (fun _ _ => nn116) rfl ?_
        refine r_iconst 166 4 dX15_paramSort_165 rfl rfl ?_
        refine r_aload_n 167 0 dX15_paramSort_166 rfl rfl rfl ?_
        refine r_get 170 (aR 117) dX15_paramSort_167 fkX15_28 (fun _ => dsT_100 P W _) nn100 rfl rfl ?_
        refine r_iload_n 171 1 dX15_paramSort_170 rfl rfl rfl ?_
        refine r_iald 172 dX15_paramSort_171 (fun _ _ _ => dsT_117 P W _) (fun _ _ => nn117) rfl ?_
        refine r_iconst 173 0 dX15_paramSort_172 rfl rfl ?_
        refine r_aload_n 174 0 dX15_paramSort_173 rfl rfl rfl ?_
        refine r_get 177 (aI (G4 100 60)) dX15_paramSort_174 fkX15_552 (fun _ => dsT_100 P W _) nn100 rfl rfl ?_
        refine r_iconst 178 1 dX15_paramSort_177 rfl rfl ?_
        refine r_isub 179 dX15_paramSort_178 rfl ?_
        refine r_aload_n 180 0 dX15_paramSort_179 rfl rfl rfl ?_
        refine r_get 183 (aI (G4 100 61)) dX15_paramSort_180 fkX15_595 (fun _ => dsT_100 P W _) nn100 rfl rfl ?_
        refine r_isub 184 dX15_paramSort_183 rfl ?_
        refine r_callvI 187 (Mc := MTw_symbol P W) (o := 100) (as := [aI (G4 116 x1), aI 4, aI (G4 117 x1), aI 0, aI (((G4 100 60) - 1) - (G4 100 61))]) (st := []) dX15_paramSort_184 rfl (c_Tw_symbol P W (G4 116 x1) 4 (G4 117 x1) 0 (((G4 100 60) - 1) - (G4 100 61)) G4) lkX15_608 (cmTw_symbol P W) rfl rfl rfl (fun _ => dsT_100 P W _) nn100 rfl (Nat.le_of_ble_eq_true rfl) (Nat.le_of_ble_eq_true rfl) (fun _ => rfl) rfl (fun z5 G6 => ?_)
        refine r_istore 189 [(4, aI z5), (0, aR 100), (1, aI x1), (2, aI x2), (3, aI x3)] dX15_paramSort_187 rfl rfl rfl ?_
        refine r_aload_n 190 1 dX15_paramSort_189 rfl rfl rfl ?_
        refine r_get 193 (aR 141) dX15_paramSort_190 fkX15_74 (fun _ => dsT_100 P W _) nn100 rfl rfl ?_
        refine r_iload 195 0 dX15_paramSort_193 rfl rfl ?_
        refine r_iconst 196 0 dX15_paramSort_195 rfl rfl ?_
        refine r_zast 197 dX15_paramSort_196 (fun _ _ _ => dsT_141 P W _) (fun _ _ => nn141) rfl ?_
        refine ss_tk (fun G7 => ?_)
        exact r_return dX15_paramSort_197 rfl
      · refine r_to [0, 1] [(0, aR 100), (1, aI x1)] rfl ?_
        exact s_Tw_paramSort_b121 P W x1 G
  · refine r_iload_n 61 3 dX15_paramSort_60 rfl rfl rfl ?_
    refine r_if_ne 101 64 dX15_paramSort_61 rfl rfl ?_ ?_
    · refine r_iconst 102 1 dX15_paramSort_101 rfl rfl ?_
      refine r_goto 106 dX15_paramSort_102 rfl ?_
      refine r_to [0, 1, 2, 4] [(0, aR 100), (1, aI x1), (2, aI x2), (4, aI x4)] rfl ?_
      exact s_Tw_paramSort_b106 P W x1 x2 X51 hX51 x4 1 G
    · refine r_aload_n 65 0 dX15_paramSort_64 rfl rfl rfl ?_
      refine r_get 68 (aR 141) dX15_paramSort_65 fkX15_74 (fun _ => dsT_100 P W _) nn100 rfl rfl ?_
      refine r_iload 70 4 dX15_paramSort_68 rfl rfl ?_
      refine r_zald 71 dX15_paramSort_70 (fun _ _ _ => dsT_141 P W _) (fun _ _ => nn141) rfl ?_
      refine r_if_eq 105 74 dX15_paramSort_71 rfl rfl ?_ ?_
      · refine r_iconst 106 0 dX15_paramSort_105 rfl rfl ?_
        refine r_to [0, 1, 2, 4] [(0, aR 100), (1, aI x1), (2, aI x2), (4, aI x4)] rfl ?_
        exact s_Tw_paramSort_b106 P W x1 x2 X51 hX51 x4 0 G
      · refine r_aload_n 75 0 dX15_paramSort_74 rfl rfl rfl ?_
        refine r_get 78 (aR 137) dX15_paramSort_75 fkX15_62 (fun _ => dsT_100 P W _) nn100 rfl rfl ?_
        refine r_iload 80 4 dX15_paramSort_78 rfl rfl ?_
        refine r_iald 81 dX15_paramSort_80 (fun _ _ _ => dsT_137 P W _) (fun _ _ => nn137) rfl ?_
        refine r_iconst 82 5 dX15_paramSort_81 rfl rfl ?_
        refine r_icmp_ne 105 85 dX15_paramSort_82 rfl rfl ?_ ?_
        · refine r_iconst 106 0 dX15_paramSort_105 rfl rfl ?_
          refine r_to [0, 1, 2, 4] [(0, aR 100), (1, aI x1), (2, aI x2), (4, aI x4)] rfl ?_
          exact s_Tw_paramSort_b106 P W x1 x2 X51 hX51 x4 0 G
        · refine r_aload_n 86 0 dX15_paramSort_85 rfl rfl rfl ?_
          refine r_get 89 (aR 136) dX15_paramSort_86 fkX15_59 (fun _ => dsT_100 P W _) nn100 rfl rfl ?_
          refine r_iload 91 4 dX15_paramSort_89 rfl rfl ?_
          refine r_iald 92 dX15_paramSort_91 (fun _ _ _ => dsT_136 P W _) (fun _ _ => nn136) rfl ?_
          refine r_aload_n 93 0 dX15_paramSort_92 rfl rfl rfl ?_
          refine r_get 96 (aR 116) dX15_paramSort_93 fkX15_25 (fun _ => dsT_100 P W _) nn100 rfl rfl ?_
          refine r_iload_n 97 1 dX15_paramSort_96 rfl rfl rfl ?_
          refine r_iald 98 dX15_paramSort_97 (fun _ _ _ => dsT_116 P W _) (fun _ _ => nn116) rfl ?_
          refine SS.phi (fun VV_ => Tw_paramSort_b106 x1 x2 x4 VV_ G) ?_
          refine r_icmp_ne 105 101 dX15_paramSort_98 rfl rfl ?_ ?_
          · refine r_iconst 106 0 dX15_paramSort_105 rfl rfl ?_
            refine r_to [0, 1, 2, 4] [(0, aR 100), (1, aI x1), (2, aI x2), (4, aI x4)] rfl ?_
            exact s_Tw_paramSort_b106 P W x1 x2 X51 hX51 x4 0 G
          · refine r_iconst 102 1 dX15_paramSort_101 rfl rfl ?_
            refine r_goto 106 dX15_paramSort_102 rfl ?_
            refine r_to [0, 1, 2, 4] [(0, aR 100), (1, aI x1), (2, aI x2), (4, aI x4)] rfl ?_
            exact s_Tw_paramSort_b106 P W x1 x2 X51 hX51 x4 1 G
theorem sl_Tw_paramSort_51 (P W : Int) (x1 : Int) (x2 : Int) (x3 : Int) (x4 : Int) (G : St) : SS (MTw_paramSort P W) some 51 [(0, aR 100), (1, aI x1), (2, aI x2), (3, aI x3), (4, aI x4)] [] G (Tw_paramSort_l51 x1 x2 x3 x4 G) := by
  exact SS.loop (σ := Int × Int × St) (fun s => [(0, aR 100), (1, aI x1), (2, aI x2), (3, aI (s.1)), (4, aI (s.2.1))]) (fun s => s.2.2) (fun s => Tw_paramSort_s51 x1 x2 s.1 s.2.1 s.2.2) (fun X51 hX51 s => s_Tw_paramSort_s51 P W x1 x2  X51 hX51 s.1 s.2.1 s.2.2) (x3, x4, G)
theorem s_Tw_paramSort_b39 (P W : Int) (x1 : Int) (X7 : Int × Int × St → Option (Int × St)) (hX7 : ∀ s, So (MTw_paramSort P W) 7 [(0, aR 100), (1, aI x1), (2, aI (s.1)), (3, aI (s.2.1))] [] s.2.2 (X7 s)) (x3 : Int) (s0 : Int) (G : St) : SS (MTw_paramSort P W) (lk X7 some) 39 [(0, aR 100), (1, aI x1), (3, aI x3)] [aI s0] G (Tw_paramSort_b39 x1 x3 s0 G) := by
  refine r_istore_n 40 [(2, aI s0), (0, aR 100), (1, aI x1), (3, aI x3)] dX15_paramSort_39 rfl rfl rfl rfl ?_
  refine r_iinc 43 [(3, aI (x3 + 1)), (2, aI s0), (0, aR 100), (1, aI x1)] 3 dX15_paramSort_40 rfl rfl rfl rfl ?_
  refine r_goto 7 dX15_paramSort_43 rfl ?_
  refine r_to [2, 3, 1, 0] [(0, aR 100), (1, aI x1), (2, aI s0), (3, aI (x3 + 1))] rfl ?_
  exact SS.back (hX7 (s0, x3 + 1, G))
theorem s_Tw_paramSort_s7 (P W : Int) (x1 : Int) (X7 : Int × Int × St → Option (Int × St)) (hX7 : ∀ s, So (MTw_paramSort P W) 7 [(0, aR 100), (1, aI x1), (2, aI (s.1)), (3, aI (s.2.1))] [] s.2.2 (X7 s)) (x2 : Int) (x3 : Int) (G : St) : SS (MTw_paramSort P W) (lk X7 some) 7 [(0, aR 100), (1, aI x1), (2, aI x2), (3, aI x3)] [] G (Tw_paramSort_s7 x1 x2 x3 G) := by
  refine r_iload_n 8 3 dX15_paramSort_7 rfl rfl rfl ?_
  refine r_aload_n 9 0 dX15_paramSort_8 rfl rfl rfl ?_
  refine r_get 12 (aI (G 100 34)) dX15_paramSort_9 fkX15_534 (fun _ => dsT_100 P W _) nn100 rfl rfl ?_
  refine r_icmp_ge 46 15 dX15_paramSort_12 rfl rfl ?_ ?_
  · refine SS.ex ?_
    refine r_iconst 47 0 dX15_paramSort_46 rfl rfl ?_
    refine r_istore_n 48 [(3, aI 0), (0, aR 100), (1, aI x1), (2, aI x2)] dX15_paramSort_47 rfl rfl rfl rfl ?_
    refine r_iconst 49 0 dX15_paramSort_48 rfl rfl ?_
    refine r_istore 51 [(4, aI 0), (3, aI 0), (0, aR 100), (1, aI x1), (2, aI x2)] dX15_paramSort_49 rfl rfl rfl ?_
    refine r_to [2, 3, 4, 1, 0] [(0, aR 100), (1, aI x1), (2, aI x2), (3, aI 0), (4, aI 0)] rfl ?_
    exact sl_Tw_paramSort_51 P W x1 x2 0 0 G
  · refine r_iload_n 16 2 dX15_paramSort_15 rfl rfl rfl ?_
    refine r_if_ne 34 19 dX15_paramSort_16 rfl rfl ?_ ?_
    · refine r_iconst 35 1 dX15_paramSort_34 rfl rfl ?_
      refine r_goto 39 dX15_paramSort_35 rfl ?_
      refine r_to [0, 1, 3] [(0, aR 100), (1, aI x1), (3, aI x3)] rfl ?_
      exact s_Tw_paramSort_b39 P W x1 X7 hX7 x3 1 G
    · refine r_aload_n 20 0 dX15_paramSort_19 rfl rfl rfl ?_
      refine r_get 23 (aR 136) dX15_paramSort_20 fkX15_59 (fun _ => dsT_100 P W _) nn100 rfl rfl ?_
      refine r_iload_n 24 3 dX15_paramSort_23 rfl rfl rfl ?_
      refine r_iald 25 dX15_paramSort_24 (fun _ _ _ => dsT_136 P W _) (fun _ _ => nn136) rfl ?_
      refine r_aload_n 26 0 dX15_paramSort_25 rfl rfl rfl ?_
      refine r_get 29 (aR 116) dX15_paramSort_26 fkX15_25 (fun _ => dsT_100 P W _) nn100 rfl rfl ?_
      refine r_iload_n 30 1 dX15_paramSort_29 rfl rfl rfl ?_
      refine r_iald 31 dX15_paramSort_30 (fun _ _ _ => dsT_116 P W _) (fun _ _ => nn116) rfl ?_
      refine SS.phi (fun VV_ => Tw_paramSort_b39 x1 x3 VV_ G) ?_
      refine r_icmp_ne 38 34 dX15_paramSort_31 rfl rfl ?_ ?_
      · refine r_iconst 39 0 dX15_paramSort_38 rfl rfl ?_
        refine r_to [0, 1, 3] [(0, aR 100), (1, aI x1), (3, aI x3)] rfl ?_
        exact s_Tw_paramSort_b39 P W x1 X7 hX7 x3 0 G
      · refine r_iconst 35 1 dX15_paramSort_34 rfl rfl ?_
        refine r_goto 39 dX15_paramSort_35 rfl ?_
        refine r_to [0, 1, 3] [(0, aR 100), (1, aI x1), (3, aI x3)] rfl ?_
        exact s_Tw_paramSort_b39 P W x1 X7 hX7 x3 1 G
theorem sl_Tw_paramSort_7 (P W : Int) (x1 : Int) (x2 : Int) (x3 : Int) (G : St) : SS (MTw_paramSort P W) some 7 [(0, aR 100), (1, aI x1), (2, aI x2), (3, aI x3)] [] G (Tw_paramSort_l7 x1 x2 x3 G) := by
  exact SS.loop (σ := Int × Int × St) (fun s => [(0, aR 100), (1, aI x1), (2, aI (s.1)), (3, aI (s.2.1))]) (fun s => s.2.2) (fun s => Tw_paramSort_s7 x1 s.1 s.2.1 s.2.2) (fun X7 hX7 s => s_Tw_paramSort_s7 P W x1  X7 hX7 s.1 s.2.1 s.2.2) (x2, x3, G)
theorem s_Tw_paramSort (P W : Int) (x1 : Int) (G : St) : SS (MTw_paramSort P W) some 0 [(0, aR 100), (1, aI x1)] [] G (Tw_paramSort x1 G) := by
  refine r_iconst 1 0 dX15_paramSort_0 rfl rfl ?_
  refine r_istore_n 2 [(2, aI 0), (0, aR 100), (1, aI x1)] dX15_paramSort_1 rfl rfl rfl rfl ?_
  refine r_aload_n 3 1 dX15_paramSort_2 rfl rfl rfl ?_
  refine r_get 6 (aI (G 100 62)) dX15_paramSort_3 fkX15_598 (fun _ => dsT_100 P W _) nn100 rfl rfl ?_
  refine r_istore_n 7 [(3, aI (G 100 62)), (2, aI 0), (0, aR 100), (1, aI x1)] dX15_paramSort_6 rfl rfl rfl rfl ?_
  refine r_to [2, 3, 1, 0] [(0, aR 100), (1, aI x1), (2, aI 0), (3, aI (G 100 62))] rfl ?_
  exact sl_Tw_paramSort_7 P W x1 0 (G 100 62) G
theorem c_Tw_paramSort (P W : Int) (x1 : Int) (G : St) : MG (MTw_paramSort P W) [aR 100, aI x1] G (Tw_paramSort x1 G) := MG.of plX15 (Nat.le_of_ble_eq_true rfl) (s_Tw_paramSort P W x1 G)
theorem s_Tw_statementSort_b104 (P W : Int) (x1 : Int) (G : St) : SS (MTw_statementSort P W) some 104 [(0, aR 100), (1, aI x1)] [] G (Tw_statementSort_b104 x1 G) := by
  refine r_aload_n 105 0 dX15_statementSort_104 rfl rfl rfl ?_
  refine r_iload_n 106 1 dX15_statementSort_105 rfl rfl rfl ?_
  refine r_callvV 109 (Mc := MTw_comes P W) (o := 100) (as := [aI x1]) (st := []) dX15_statementSort_106 rfl (c_Tw_comes P W x1 G) lkX15_592 (cmTw_comes P W) rfl rfl rfl (fun _ => dsT_100 P W _) nn100 rfl (Nat.le_of_ble_eq_true rfl) (Nat.le_of_ble_eq_true rfl) (fun _ => rfl) rfl (fun z1 G2 => ?_)
  refine r_aload_n 110 0 dX15_statementSort_109 rfl rfl rfl ?_
  refine r_get 113 (aR 115) dX15_statementSort_110 fkX15_22 (fun _ => dsT_100 P W _) nn100 rfl rfl ?_
  refine r_iload_n 114 1 dX15_statementSort_113 rfl rfl rfl ?_
  refine r_iald 115 dX15_statementSort_114 (fun _ _ _ => dsT_115 P W _) (fun _ _ => nn115) rfl ?_
  refine r_bipush 117 26 dX15_statementSort_115 rfl rfl ?_
  refine r_icmp_ne 721 120 dX15_statementSort_117 rfl rfl ?_ ?_
  · exact r_return dX15_statementSort_721 rfl
  · refine r_aload_n 121 0 dX15_statementSort_120 rfl rfl rfl ?_
    refine r_aload_n 122 0 dX15_statementSort_121 rfl rfl rfl ?_
    refine r_get 125 (aI (G2 100 60)) dX15_statementSort_122 fkX15_552 (fun _ => dsT_100 P W _) nn100 rfl rfl ?_
    refine r_putI 128 dX15_statementSort_125 fkX15_595 (fun _ => dsT_100 P W _) nn100 rfl rfl ?_
    refine ss_tk (fun G3 => ?_)
    refine r_aload_n 129 0 dX15_statementSort_128 rfl rfl rfl ?_
    refine r_aload_n 130 0 dX15_statementSort_129 rfl rfl rfl ?_
    refine r_get 133 (aI (G3 100 34)) dX15_statementSort_130 fkX15_534 (fun _ => dsT_100 P W _) nn100 rfl rfl ?_
    refine r_putI 136 dX15_statementSort_133 fkX15_598 (fun _ => dsT_100 P W _) nn100 rfl rfl ?_
    refine ss_tk (fun G4 => ?_)
    refine r_aload_n 137 0 dX15_statementSort_136 rfl rfl rfl ?_
    refine r_iload_n 138 1 dX15_statementSort_137 rfl rfl rfl ?_
    refine r_putI 141 dX15_statementSort_138 fkX15_601 (fun _ => dsT_100 P W _) nn100 rfl rfl ?_
    refine ss_tk (fun G5 => ?_)
    refine r_goto 721 dX15_statementSort_141 rfl ?_
    exact r_return dX15_statementSort_721 rfl
theorem s_Tw_statementSort_b211 (P W : Int) (s0 : Int) (s1 : Int) (G : St) : SS (MTw_statementSort P W) some 211 [] [aI s0, aI s1, aR 100] G (Tw_statementSort_b211 s0 s1 G) := by
  refine r_iadd 212 dX15_statementSort_211 rfl ?_
  refine r_putI 215 dX15_statementSort_212 fkX15_555 (fun _ => dsT_100 P W _) nn100 rfl rfl ?_
  refine ss_tk (fun G9 => ?_)
  refine r_goto 721 dX15_statementSort_215 rfl ?_
  exact r_return dX15_statementSort_721 rfl
theorem s_Tw_statementSort_b152 (P W : Int) (x1 : Int) (G : St) : SS (MTw_statementSort P W) some 152 [(0, aR 100), (1, aI x1)] [] G (Tw_statementSort_b152 x1 G) := by
  refine r_aload_n 153 0 dX15_statementSort_152 rfl rfl rfl ?_
  refine r_get 156 (aR 119) dX15_statementSort_153 fkX15_34 (fun _ => dsT_100 P W _) nn100 rfl rfl ?_
  refine r_iload_n 157 1 dX15_statementSort_156 rfl rfl rfl ?_
  refine r_lald 158 dX15_statementSort_157 (fun _ _ _ => dsT_119 P W _) (fun _ _ => nn119) rfl ?_
  refine r_ldc2 161 255 dX15_statementSort_158 q2541 (by decide) rfl rfl ?_
  refine r_land 162 dX15_statementSort_161 rfl ?_
  refine r_l2iw 163 dX15_statementSort_162 rfl ?_
  refine r_istore_n 164 [(2, aI (w32 (j_lan (G 119 x1) 255))), (0, aR 100), (1, aI x1)] dX15_statementSort_163 rfl rfl rfl rfl ?_
  refine r_aload_n 165 1 dX15_statementSort_164 rfl rfl rfl ?_
  refine r_aload_n 166 1 dX15_statementSort_165 rfl rfl rfl ?_
  refine r_get 169 (aR 116) dX15_statementSort_166 fkX15_25 (fun _ => dsT_100 P W _) nn100 rfl rfl ?_
  refine r_iload_n 170 2 dX15_statementSort_169 rfl rfl rfl ?_
  refine r_iald 171 dX15_statementSort_170 (fun _ _ _ => dsT_116 P W _) (fun _ _ => nn116) rfl ?_
  refine r_iconst 172 1 dX15_statementSort_171 rfl rfl ?_
  refine r_aload_n 173 1 dX15_statementSort_172 rfl rfl rfl ?_
  refine r_get 176 (aR 117) dX15_statementSort_173 fkX15_28 (fun _ => dsT_100 P W _) nn100 rfl rfl ?_
  refine r_iload_n 177 2 dX15_statementSort_176 rfl rfl rfl ?_
  refine r_iald 178 dX15_statementSort_177 (fun _ _ _ => dsT_117 P W _) (fun _ _ => nn117) rfl ?_
  refine r_iload_n 179 0 dX15_statementSort_178 rfl rfl rfl ?_
  refine r_aload_n 180 1 dX15_statementSort_179 rfl rfl rfl ?_
  refine r_get 183 (aI (G 100 59)) dX15_statementSort_180 fkX15_555 (fun _ => dsT_100 P W _) nn100 rfl rfl ?_
  refine r_callvI 186 (Mc := MTw_symbol P W) (o := 100) (as := [aI (G 116 x1), aI 1, aI (G 117 x1), aI (w32 (j_lan (G 119 x1) 255)), aI (G 100 59)]) (st := []) dX15_statementSort_183 rfl (c_Tw_symbol P W (G 116 x1) 1 (G 117 x1) (w32 (j_lan (G 119 x1) 255)) (G 100 59) G) lkX15_608 (cmTw_symbol P W) rfl rfl rfl (fun _ => dsT_100 P W _) nn100 rfl (Nat.le_of_ble_eq_true rfl) (Nat.le_of_ble_eq_true rfl) (fun _ => rfl) rfl (fun z6 G7 => ?_)
  refine r_istore_n 187 [(3, aI z6), (2, aI (w32 (j_lan (G 119 x1) 255))), (0, aR 100), (1, aI x1)] dX15_statementSort_186 rfl rfl rfl rfl ?_
  refine r_aload_n 188 2 dX15_statementSort_187 rfl rfl rfl ?_
  refine r_get 191 (aR 134) dX15_statementSort_188 fkX15_56 (fun _ => dsT_100 P W _) nn100 rfl rfl ?_
  refine r_iload_n 192 3 dX15_statementSort_191 rfl rfl rfl ?_
  refine r_aload_n 193 2 dX15_statementSort_192 rfl rfl rfl ?_
  refine r_get 196 (aI (G7 100 59)) dX15_statementSort_193 fkX15_555 (fun _ => dsT_100 P W _) nn100 rfl rfl ?_
  refine r_iast 197 dX15_statementSort_196 (fun _ _ _ => dsT_134 P W _) (fun _ _ => nn134) rfl ?_
  refine ss_tk (fun G8 => ?_)
  refine r_aload_n 198 2 dX15_statementSort_197 rfl rfl rfl ?_
  refine r_dup 199 dX15_statementSort_198 rfl rfl ?_
  refine r_get 202 (aI (G8 100 59)) dX15_statementSort_199 fkX15_555 (fun _ => dsT_100 P W _) nn100 rfl rfl ?_
  refine r_iload_n 203 1 dX15_statementSort_202 rfl rfl rfl ?_
  refine SS.phi (fun VV_ => Tw_statementSort_b211 VV_ (G8 100 59) G8) ?_
  refine r_if_ne 210 206 dX15_statementSort_203 rfl rfl ?_ ?_
  · refine r_iload_n 211 1 dX15_statementSort_210 rfl rfl rfl ?_
    refine r_to [] [] rfl ?_
    exact s_Tw_statementSort_b211 P W (w32 (j_lan (G 119 x1) 255)) (G8 100 59) G8
  · refine r_iconst 207 1 dX15_statementSort_206 rfl rfl ?_
    refine r_goto 211 dX15_statementSort_207 rfl ?_
    refine r_to [] [] rfl ?_
    exact s_Tw_statementSort_b211 P W 1 (G8 100 59) G8
theorem s_Tw_statementSort_b251 (P W : Int) (x1 : Int) (G : St) : SS (MTw_statementSort P W) some 251 [(0, aR 100), (1, aI x1)] [] G (Tw_statementSort_b251 x1 G) := by
  refine r_aload_n 252 0 dX15_statementSort_251 rfl rfl rfl ?_
  refine r_get 255 (aI (G 100 7)) dX15_statementSort_252 fkX15_323 (fun _ => dsT_100 P W _) nn100 rfl rfl ?_
  refine r_if_ne 721 258 dX15_statementSort_255 rfl rfl ?_ ?_
  · exact r_return dX15_statementSort_721 rfl
  · refine r_aload_n 259 0 dX15_statementSort_258 rfl rfl rfl ?_
    refine r_aload_n 260 0 dX15_statementSort_259 rfl rfl rfl ?_
    refine r_get 263 (aR 116) dX15_statementSort_260 fkX15_25 (fun _ => dsT_100 P W _) nn100 rfl rfl ?_
    refine r_iload_n 264 1 dX15_statementSort_263 rfl rfl rfl ?_
    refine r_iald 265 dX15_statementSort_264 (fun _ _ _ => dsT_116 P W _) (fun _ _ => nn116) rfl ?_
    refine r_iconst 266 2 dX15_statementSort_265 rfl rfl ?_
    refine r_aload_n 267 0 dX15_statementSort_266 rfl rfl rfl ?_
    refine r_get 270 (aR 117) dX15_statementSort_267 fkX15_28 (fun _ => dsT_100 P W _) nn100 rfl rfl ?_
    refine r_iload_n 271 1 dX15_statementSort_270 rfl rfl rfl ?_
    refine r_iald 272 dX15_statementSort_271 (fun _ _ _ => dsT_117 P W _) (fun _ _ => nn117) rfl ?_
    refine r_aload_n 273 0 dX15_statementSort_272 rfl rfl rfl ?_
    refine r_get 276 (aR 119) dX15_statementSort_273 fkX15_34 (fun _ => dsT_100 P W _) nn100 rfl rfl ?_
    refine r_iload_n 277 1 dX15_statementSort_276 rfl rfl rfl ?_
    refine r_lald 278 dX15_statementSort_277 (fun _ _ _ => dsT_119 P W _) (fun _ _ => nn119) rfl ?_
    refine r_bipush 280 8 dX15_statementSort_278 rfl rfl ?_
    refine r_lshr 281 dX15_statementSort_280 rfl ?_
    refine r_ldc2 284 255 dX15_statementSort_281 q2541 (by decide) rfl rfl ?_
    refine r_land 285 dX15_statementSort_284 rfl ?_
    refine r_l2iw 286 dX15_statementSort_285 rfl ?_
    refine r_aload_n 287 0 dX15_statementSort_286 rfl rfl rfl ?_
    refine r_get 290 (aR 134) dX15_statementSort_287 fkX15_56 (fun _ => dsT_100 P W _) nn100 rfl rfl ?_
    refine r_iload_n 291 1 dX15_statementSort_290 rfl rfl rfl ?_
    refine r_iald 292 dX15_statementSort_291 (fun _ _ _ => dsT_134 P W _) (fun _ _ => nn134) rfl ?_
    refine r_callvI 295 (Mc := MTw_symbol P W) (o := 100) (as := [aI (G 116 x1), aI 2, aI (G 117 x1), aI (w32 (j_lan (j_lsr (G 119 x1) 8) 255)), aI (G 134 x1)]) (st := []) dX15_statementSort_292 rfl (c_Tw_symbol P W (G 116 x1) 2 (G 117 x1) (w32 (j_lan (j_lsr (G 119 x1) 8) 255)) (G 134 x1) G) lkX15_608 (cmTw_symbol P W) rfl rfl rfl (fun _ => dsT_100 P W _) nn100 rfl (Nat.le_of_ble_eq_true rfl) (Nat.le_of_ble_eq_true rfl) (fun _ => rfl) rfl (fun z10 G11 => ?_)
    refine r_istore_n 296 [(2, aI z10), (0, aR 100), (1, aI x1)] dX15_statementSort_295 rfl rfl rfl rfl ?_
    refine r_goto 721 dX15_statementSort_296 rfl ?_
    exact r_return dX15_statementSort_721 rfl
theorem s_Tw_statementSort_b218 (P W : Int) (x1 : Int) (G : St) : SS (MTw_statementSort P W) some 218 [(0, aR 100), (1, aI x1)] [] G (Tw_statementSort_b218 x1 G) := by
  refine r_aload_n 219 0 dX15_statementSort_218 rfl rfl rfl ?_
  refine r_get 222 (aR 119) dX15_statementSort_219 fkX15_34 (fun _ => dsT_100 P W _) nn100 rfl rfl ?_
  refine r_iload_n 223 1 dX15_statementSort_222 rfl rfl rfl ?_
  refine r_lald 224 dX15_statementSort_223 (fun _ _ _ => dsT_119 P W _) (fun _ _ => nn119) rfl ?_
  refine r_ldc2 227 65536 dX15_statementSort_224 q2451 (by decide) rfl rfl ?_
  refine r_lif_lt 228 251 231 dX15_statementSort_227 rfl dX15_statementSort_228 rfl rfl ?_ ?_
  · exact s_Tw_statementSort_b251 P W x1 G
  · refine r_aload_n 232 0 dX15_statementSort_231 rfl rfl rfl ?_
    refine r_aload_n 233 0 dX15_statementSort_232 rfl rfl rfl ?_
    refine r_get 236 (aR 117) dX15_statementSort_233 fkX15_28 (fun _ => dsT_100 P W _) nn100 rfl rfl ?_
    refine r_iload_n 237 1 dX15_statementSort_236 rfl rfl rfl ?_
    refine r_iald 238 dX15_statementSort_237 (fun _ _ _ => dsT_117 P W _) (fun _ _ => nn117) rfl ?_
    refine r_callvV 241 (Mc := MTw_must P W) (o := 100) (as := [aI (G 117 x1)]) (st := []) dX15_statementSort_238 rfl (c_Tw_must P W (G 117 x1) G) lkX15_574 (cmTw_must P W) rfl rfl rfl (fun _ => dsT_100 P W _) nn100 rfl (Nat.le_of_ble_eq_true rfl) (Nat.le_of_ble_eq_true rfl) (fun _ => rfl) rfl (fun z12 G13 => ?_)
    refine r_aload_n 242 0 dX15_statementSort_241 rfl rfl rfl ?_
    refine r_dup 243 dX15_statementSort_242 rfl rfl ?_
    refine r_get 246 (aI (G13 100 43)) dX15_statementSort_243 fkX15_540 (fun _ => dsT_100 P W _) nn100 rfl rfl ?_
    refine r_iconst 247 1 dX15_statementSort_246 rfl rfl ?_
    refine r_isub 248 dX15_statementSort_247 rfl ?_
    refine r_putI 251 dX15_statementSort_248 fkX15_540 (fun _ => dsT_100 P W _) nn100 rfl rfl ?_
    refine ss_tk (fun G14 => ?_)
    exact s_Tw_statementSort_b251 P W x1 G14
theorem s_Tw_statementSort_b144 (P W : Int) (x1 : Int) (G : St) : SS (MTw_statementSort P W) some 144 [(0, aR 100), (1, aI x1)] [] G (Tw_statementSort_b144 x1 G) := by
  refine r_aload_n 145 0 dX15_statementSort_144 rfl rfl rfl ?_
  refine r_iload_n 146 1 dX15_statementSort_145 rfl rfl rfl ?_
  refine r_callvV 149 (Mc := MTw_paramSort P W) (o := 100) (as := [aI x1]) (st := []) dX15_statementSort_146 rfl (c_Tw_paramSort P W x1 G) lkX15_604 (cmTw_paramSort P W) rfl rfl rfl (fun _ => dsT_100 P W _) nn100 rfl (Nat.le_of_ble_eq_true rfl) (Nat.le_of_ble_eq_true rfl) (fun _ => rfl) rfl (fun z15 G16 => ?_)
  refine r_goto 721 dX15_statementSort_149 rfl ?_
  exact r_return dX15_statementSort_721 rfl
theorem s_Tw_statementSort_s309 (P W : Int) (X309 : Int × St → Option (Int × St)) (hX309 : ∀ s, So (MTw_statementSort P W) 309 [(0, aR 100), (2, aI (s.1))] [] s.2 (X309 s)) (x2 : Int) (G : St) : SS (MTw_statementSort P W) (lk X309 some) 309 [(0, aR 100), (2, aI x2)] [] G (Tw_statementSort_s309 x2 G) := by
  refine r_iload_n 310 1 dX15_statementSort_309 rfl rfl rfl ?_
  refine r_aload_n 311 0 dX15_statementSort_310 rfl rfl rfl ?_
  refine r_get 314 (aI (G 100 34)) dX15_statementSort_311 fkX15_534 (fun _ => dsT_100 P W _) nn100 rfl rfl ?_
  refine r_icmp_ge 330 317 dX15_statementSort_314 rfl rfl ?_ ?_
  · refine SS.ex ?_
    refine r_goto 721 dX15_statementSort_330 rfl ?_
    exact r_return dX15_statementSort_721 rfl
  · refine r_aload_n 318 0 dX15_statementSort_317 rfl rfl rfl ?_
    refine r_get 321 (aR 141) dX15_statementSort_318 fkX15_74 (fun _ => dsT_100 P W _) nn100 rfl rfl ?_
    refine r_iload_n 322 1 dX15_statementSort_321 rfl rfl rfl ?_
    refine r_iconst 323 1 dX15_statementSort_322 rfl rfl ?_
    refine r_zast 324 dX15_statementSort_323 (fun _ _ _ => dsT_141 P W _) (fun _ _ => nn141) rfl ?_
    refine ss_tk (fun G18 => ?_)
    refine r_iinc 327 [(2, aI (x2 + 1)), (0, aR 100)] 1 dX15_statementSort_324 rfl rfl rfl rfl ?_
    refine r_goto 309 dX15_statementSort_327 rfl ?_
    refine r_to [1, 0] [(0, aR 100), (2, aI (x2 + 1))] rfl ?_
    exact SS.back (hX309 (x2 + 1, G18))
theorem sl_Tw_statementSort_309 (P W : Int) (x2 : Int) (G : St) : SS (MTw_statementSort P W) some 309 [(0, aR 100), (2, aI x2)] [] G (Tw_statementSort_l309 x2 G) := by
  exact SS.loop (σ := Int × St) (fun s => [(0, aR 100), (2, aI (s.1))]) (fun s => s.2) (fun s => Tw_statementSort_s309 s.1 s.2) (fun X309 hX309 s => s_Tw_statementSort_s309 P W   X309 hX309 s.1 s.2) (x2, G)
theorem s_Tw_statementSort_b299 (P W : Int) (G : St) : SS (MTw_statementSort P W) some 299 [(0, aR 100)] [] G (Tw_statementSort_b299 G) := by
  refine r_aload_n 300 0 dX15_statementSort_299 rfl rfl rfl ?_
  refine r_iconst 301 1 dX15_statementSort_300 rfl rfl ?_
  refine r_putZ 304 dX15_statementSort_301 fkX15_537 (fun _ => dsT_100 P W _) nn100 rfl rfl ?_
  refine ss_tk (fun G17 => ?_)
  refine r_aload_n 305 0 dX15_statementSort_304 rfl rfl rfl ?_
  refine r_get 308 (aI (G17 100 62)) dX15_statementSort_305 fkX15_598 (fun _ => dsT_100 P W _) nn100 rfl rfl ?_
  refine r_istore_n 309 [(2, aI (G17 100 62)), (0, aR 100)] dX15_statementSort_308 rfl rfl rfl rfl ?_
  refine r_to [1, 0] [(0, aR 100), (2, aI (G17 100 62))] rfl ?_
  exact sl_Tw_statementSort_309 P W (G17 100 62) G17
theorem s_Tw_statementSort_b333 (P W : Int) (x1 : Int) (G : St) : SS (MTw_statementSort P W) some 333 [(0, aR 100), (1, aI x1)] [] G (Tw_statementSort_b333 x1 G) := by
  refine r_aload_n 334 0 dX15_statementSort_333 rfl rfl rfl ?_
  refine r_aload_n 335 0 dX15_statementSort_334 rfl rfl rfl ?_
  refine r_get 338 (aR 117) dX15_statementSort_335 fkX15_28 (fun _ => dsT_100 P W _) nn100 rfl rfl ?_
  refine r_iload_n 339 1 dX15_statementSort_338 rfl rfl rfl ?_
  refine r_iald 340 dX15_statementSort_339 (fun _ _ _ => dsT_117 P W _) (fun _ _ => nn117) rfl ?_
  refine r_callvV 343 (Mc := MTw_must P W) (o := 100) (as := [aI (G 117 x1)]) (st := []) dX15_statementSort_340 rfl (c_Tw_must P W (G 117 x1) G) lkX15_574 (cmTw_must P W) rfl rfl rfl (fun _ => dsT_100 P W _) nn100 rfl (Nat.le_of_ble_eq_true rfl) (Nat.le_of_ble_eq_true rfl) (fun _ => rfl) rfl (fun z19 G20 => ?_)
  refine r_aload_n 344 0 dX15_statementSort_343 rfl rfl rfl ?_
  refine r_dup 345 dX15_statementSort_344 rfl rfl ?_
  refine r_get 348 (aI (G20 100 43)) dX15_statementSort_345 fkX15_540 (fun _ => dsT_100 P W _) nn100 rfl rfl ?_
  refine r_iconst 349 1 dX15_statementSort_348 rfl rfl ?_
  refine r_isub 350 dX15_statementSort_349 rfl ?_
  refine r_putI 353 dX15_statementSort_350 fkX15_540 (fun _ => dsT_100 P W _) nn100 rfl rfl ?_
  refine ss_tk (fun G21 => ?_)
  refine r_aload_n 354 0 dX15_statementSort_353 rfl rfl rfl ?_
  refine r_iconst 355 0 dX15_statementSort_354 rfl rfl ?_
  refine r_putZ 358 dX15_statementSort_355 fkX15_537 (fun _ => dsT_100 P W _) nn100 rfl rfl ?_
  refine ss_tk (fun G22 => ?_)
  refine r_aload_n 359 0 dX15_statementSort_358 rfl rfl rfl ?_
  refine r_aload_n 360 0 dX15_statementSort_359 rfl rfl rfl ?_
  refine r_get 363 (aI (G22 100 62)) dX15_statementSort_360 fkX15_598 (fun _ => dsT_100 P W _) nn100 rfl rfl ?_
  refine r_putI 366 dX15_statementSort_363 fkX15_534 (fun _ => dsT_100 P W _) nn100 rfl rfl ?_
  refine ss_tk (fun G23 => ?_)
  refine r_aload_n 367 0 dX15_statementSort_366 rfl rfl rfl ?_
  refine r_get 370 (aI (G23 100 7)) dX15_statementSort_367 fkX15_323 (fun _ => dsT_100 P W _) nn100 rfl rfl ?_
  refine r_if_ne 721 373 dX15_statementSort_370 rfl rfl ?_ ?_
  · exact r_return dX15_statementSort_721 rfl
  · refine r_aload_n 374 0 dX15_statementSort_373 rfl rfl rfl ?_
    refine r_aload_n 375 0 dX15_statementSort_374 rfl rfl rfl ?_
    refine r_get 378 (aR 116) dX15_statementSort_375 fkX15_25 (fun _ => dsT_100 P W _) nn100 rfl rfl ?_
    refine r_iload_n 379 1 dX15_statementSort_378 rfl rfl rfl ?_
    refine r_iald 380 dX15_statementSort_379 (fun _ _ _ => dsT_116 P W _) (fun _ _ => nn116) rfl ?_
    refine r_iconst 381 5 dX15_statementSort_380 rfl rfl ?_
    refine r_aload_n 382 0 dX15_statementSort_381 rfl rfl rfl ?_
    refine r_get 385 (aR 117) dX15_statementSort_382 fkX15_28 (fun _ => dsT_100 P W _) nn100 rfl rfl ?_
    refine r_iload_n 386 1 dX15_statementSort_385 rfl rfl rfl ?_
    refine r_iald 387 dX15_statementSort_386 (fun _ _ _ => dsT_117 P W _) (fun _ _ => nn117) rfl ?_
    refine r_iconst 388 0 dX15_statementSort_387 rfl rfl ?_
    refine r_aload_n 389 0 dX15_statementSort_388 rfl rfl rfl ?_
    refine r_get 392 (aI (G23 100 63)) dX15_statementSort_389 fkX15_601 (fun _ => dsT_100 P W _) nn100 rfl rfl ?_
    refine r_callvI 395 (Mc := MTw_symbol P W) (o := 100) (as := [aI (G23 116 x1), aI 5, aI (G23 117 x1), aI 0, aI (G23 100 63)]) (st := []) dX15_statementSort_392 rfl (c_Tw_symbol P W (G23 116 x1) 5 (G23 117 x1) 0 (G23 100 63) G23) lkX15_608 (cmTw_symbol P W) rfl rfl rfl (fun _ => dsT_100 P W _) nn100 rfl (Nat.le_of_ble_eq_true rfl) (Nat.le_of_ble_eq_true rfl) (fun _ => rfl) rfl (fun z24 G25 => ?_)
    refine r_istore_n 396 [(2, aI z24), (0, aR 100), (1, aI x1)] dX15_statementSort_395 rfl rfl rfl rfl ?_
    refine r_aload_n 397 1 dX15_statementSort_396 rfl rfl rfl ?_
    refine r_get 400 (aR 142) dX15_statementSort_397 fkX15_78 (fun _ => dsT_100 P W _) nn100 rfl rfl ?_
    refine r_iload_n 401 0 dX15_statementSort_400 rfl rfl rfl ?_
    refine r_aload_n 402 1 dX15_statementSort_401 rfl rfl rfl ?_
    refine r_get 405 (aI (G25 100 61)) dX15_statementSort_402 fkX15_595 (fun _ => dsT_100 P W _) nn100 rfl rfl ?_
    refine r_iast 406 dX15_statementSort_405 (fun _ _ _ => dsT_142 P W _) (fun _ _ => nn142) rfl ?_
    refine ss_tk (fun G26 => ?_)
    refine r_aload_n 407 1 dX15_statementSort_406 rfl rfl rfl ?_
    refine r_get 410 (aR 143) dX15_statementSort_407 fkX15_81 (fun _ => dsT_100 P W _) nn100 rfl rfl ?_
    refine r_iload_n 411 0 dX15_statementSort_410 rfl rfl rfl ?_
    refine r_aload_n 412 1 dX15_statementSort_411 rfl rfl rfl ?_
    refine r_get 415 (aI (G26 100 60)) dX15_statementSort_412 fkX15_552 (fun _ => dsT_100 P W _) nn100 rfl rfl ?_
    refine r_aload_n 416 1 dX15_statementSort_415 rfl rfl rfl ?_
    refine r_get 419 (aI (G26 100 61)) dX15_statementSort_416 fkX15_595 (fun _ => dsT_100 P W _) nn100 rfl rfl ?_
    refine r_isub 420 dX15_statementSort_419 rfl ?_
    refine r_iast 421 dX15_statementSort_420 (fun _ _ _ => dsT_143 P W _) (fun _ _ => nn143) rfl ?_
    refine ss_tk (fun G27 => ?_)
    refine r_goto 721 dX15_statementSort_421 rfl ?_
    exact r_return dX15_statementSort_721 rfl
theorem s_Tw_statementSort_b424 (P W : Int) (x1 : Int) (G : St) : SS (MTw_statementSort P W) some 424 [(0, aR 100), (1, aI x1)] [] G (Tw_statementSort_b424 x1 G) := by
  refine r_aload_n 425 0 dX15_statementSort_424 rfl rfl rfl ?_
  refine r_get 428 (aR 117) dX15_statementSort_425 fkX15_28 (fun _ => dsT_100 P W _) nn100 rfl rfl ?_
  refine r_iload_n 429 1 dX15_statementSort_428 rfl rfl rfl ?_
  refine r_aload_n 430 0 dX15_statementSort_429 rfl rfl rfl ?_
  refine r_get 433 (aR 145) dX15_statementSort_430 fkX15_84 (fun _ => dsT_100 P W _) nn100 rfl rfl ?_
  refine r_aload_n 434 0 dX15_statementSort_433 rfl rfl rfl ?_
  refine r_get 437 (aI (G 100 43)) dX15_statementSort_434 fkX15_540 (fun _ => dsT_100 P W _) nn100 rfl rfl ?_
  refine r_iconst 438 1 dX15_statementSort_437 rfl rfl ?_
  refine r_isub 439 dX15_statementSort_438 rfl ?_
  refine r_iald 440 dX15_statementSort_439 (fun _ _ _ => dsT_145 P W _) (fun _ _ => nn145) rfl ?_
  refine r_iast 441 dX15_statementSort_440 (fun _ _ _ => dsT_117 P W _) (fun _ _ => nn117) rfl ?_
  refine ss_tk (fun G28 => ?_)
  refine r_aload_n 442 0 dX15_statementSort_441 rfl rfl rfl ?_
  refine r_dup 443 dX15_statementSort_442 rfl rfl ?_
  refine r_get 446 (aI (G28 100 43)) dX15_statementSort_443 fkX15_540 (fun _ => dsT_100 P W _) nn100 rfl rfl ?_
  refine r_iconst 447 1 dX15_statementSort_446 rfl rfl ?_
  refine r_isub 448 dX15_statementSort_447 rfl ?_
  refine r_putI 451 dX15_statementSort_448 fkX15_540 (fun _ => dsT_100 P W _) nn100 rfl rfl ?_
  refine ss_tk (fun G29 => ?_)
  refine r_goto 721 dX15_statementSort_451 rfl ?_
  exact r_return dX15_statementSort_721 rfl
theorem s_Tw_statementSort_b454 (P W : Int) (x1 : Int) (G : St) : SS (MTw_statementSort P W) some 454 [(0, aR 100), (1, aI x1)] [] G (Tw_statementSort_b454 x1 G) := by
  refine r_aload_n 455 0 dX15_statementSort_454 rfl rfl rfl ?_
  refine r_iload_n 456 1 dX15_statementSort_455 rfl rfl rfl ?_
  refine r_callvV 459 (Mc := MTw_assigned P W) (o := 100) (as := [aI x1]) (st := []) dX15_statementSort_456 rfl (c_Tw_assigned P W x1 G) lkX15_612 (cmTw_assigned P W) rfl rfl rfl (fun _ => dsT_100 P W _) nn100 rfl (Nat.le_of_ble_eq_true rfl) (Nat.le_of_ble_eq_true rfl) (fun _ => rfl) rfl (fun z30 G31 => ?_)
  refine r_goto 721 dX15_statementSort_459 rfl ?_
  exact r_return dX15_statementSort_721 rfl
theorem s_Tw_statementSort_b462 (P W : Int) (x1 : Int) (G : St) : SS (MTw_statementSort P W) some 462 [(0, aR 100), (1, aI x1)] [] G (Tw_statementSort_b462 x1 G) := by
  refine r_aload_n 463 0 dX15_statementSort_462 rfl rfl rfl ?_
  refine r_iload_n 464 1 dX15_statementSort_463 rfl rfl rfl ?_
  refine r_aload_n 465 0 dX15_statementSort_464 rfl rfl rfl ?_
  refine r_aload_n 466 0 dX15_statementSort_465 rfl rfl rfl ?_
  refine r_get 469 (aR 116) dX15_statementSort_466 fkX15_25 (fun _ => dsT_100 P W _) nn100 rfl rfl ?_
  refine r_iload_n 470 1 dX15_statementSort_469 rfl rfl rfl ?_
  refine r_iald 471 dX15_statementSort_470 (fun _ _ _ => dsT_116 P W _) (fun _ _ => nn116) rfl ?_
  refine r_callvI 474 (Mc := MTw_visible P W) (o := 100) (as := [aI (G 116 x1)]) (st := [aI x1, aR 100]) dX15_statementSort_471 rfl (c_Tw_visible P W (G 116 x1) G) lkX15_543 (cmTw_visible P W) rfl rfl rfl (fun _ => dsT_100 P W _) nn100 rfl (Nat.le_of_ble_eq_true rfl) (Nat.le_of_ble_eq_true rfl) (fun _ => rfl) rfl (fun z32 G33 => ?_)
  refine r_callvV 477 (Mc := MTw_refer P W) (o := 100) (as := [aI x1, aI z32]) (st := []) dX15_statementSort_474 rfl (c_Tw_refer P W x1 z32 G33) lkX15_571 (cmTw_refer P W) rfl rfl rfl (fun _ => dsT_100 P W _) nn100 rfl (Nat.le_of_ble_eq_true rfl) (Nat.le_of_ble_eq_true rfl) (fun _ => rfl) rfl (fun z34 G35 => ?_)
  refine r_aload_n 478 0 dX15_statementSort_477 rfl rfl rfl ?_
  refine r_aload_n 479 0 dX15_statementSort_478 rfl rfl rfl ?_
  refine r_get 482 (aR 154) dX15_statementSort_479 fkX15_105 (fun _ => dsT_100 P W _) nn100 rfl rfl ?_
  refine r_iload_n 483 1 dX15_statementSort_482 rfl rfl rfl ?_
  refine r_iald 484 dX15_statementSort_483 (fun _ _ _ => dsT_154 P W _) (fun _ _ => nn154) rfl ?_
  refine r_callvV 487 (Mc := MTw_must P W) (o := 100) (as := [aI (G35 154 x1)]) (st := []) dX15_statementSort_484 rfl (c_Tw_must P W (G35 154 x1) G35) lkX15_574 (cmTw_must P W) rfl rfl rfl (fun _ => dsT_100 P W _) nn100 rfl (Nat.le_of_ble_eq_true rfl) (Nat.le_of_ble_eq_true rfl) (fun _ => rfl) rfl (fun z36 G37 => ?_)
  refine r_aload_n 488 0 dX15_statementSort_487 rfl rfl rfl ?_
  refine r_dup 489 dX15_statementSort_488 rfl rfl ?_
  refine r_get 492 (aI (G37 100 43)) dX15_statementSort_489 fkX15_540 (fun _ => dsT_100 P W _) nn100 rfl rfl ?_
  refine r_iconst 493 1 dX15_statementSort_492 rfl rfl ?_
  refine r_isub 494 dX15_statementSort_493 rfl ?_
  refine r_putI 497 dX15_statementSort_494 fkX15_540 (fun _ => dsT_100 P W _) nn100 rfl rfl ?_
  refine ss_tk (fun G38 => ?_)
  refine r_goto 721 dX15_statementSort_497 rfl ?_
  exact r_return dX15_statementSort_721 rfl
theorem s_Tw_statementSort_b500 (P W : Int) (x1 : Int) (G : St) : SS (MTw_statementSort P W) some 500 [(0, aR 100), (1, aI x1)] [] G (Tw_statementSort_b500 x1 G) := by
  refine r_aload_n 501 0 dX15_statementSort_500 rfl rfl rfl ?_
  refine r_iload_n 502 1 dX15_statementSort_501 rfl rfl rfl ?_
  refine r_callvV 505 (Mc := MTw_elementSort P W) (o := 100) (as := [aI x1]) (st := []) dX15_statementSort_502 rfl (c_Tw_elementSort P W x1 G) lkX15_615 (cmTw_elementSort P W) rfl rfl rfl (fun _ => dsT_100 P W _) nn100 rfl (Nat.le_of_ble_eq_true rfl) (Nat.le_of_ble_eq_true rfl) (fun _ => rfl) rfl (fun z39 G40 => ?_)
  refine r_goto 721 dX15_statementSort_505 rfl ?_
  exact r_return dX15_statementSort_721 rfl
theorem s_Tw_statementSort_b565 (P W : Int) (G : St) : SS (MTw_statementSort P W) some 565 [(0, aR 100)] [] G (Tw_statementSort_b565 G) := by
  refine r_aload_n 566 0 dX15_statementSort_565 rfl rfl rfl ?_
  refine r_iconst 567 1 dX15_statementSort_566 rfl rfl ?_
  refine r_callvV 570 (Mc := MTw_must P W) (o := 100) (as := [aI 1]) (st := []) dX15_statementSort_567 rfl (c_Tw_must P W 1 G) lkX15_574 (cmTw_must P W) rfl rfl rfl (fun _ => dsT_100 P W _) nn100 rfl (Nat.le_of_ble_eq_true rfl) (Nat.le_of_ble_eq_true rfl) (fun _ => rfl) rfl (fun z41 G42 => ?_)
  refine r_aload_n 571 0 dX15_statementSort_570 rfl rfl rfl ?_
  refine r_dup 572 dX15_statementSort_571 rfl rfl ?_
  refine r_get 575 (aI (G42 100 43)) dX15_statementSort_572 fkX15_540 (fun _ => dsT_100 P W _) nn100 rfl rfl ?_
  refine r_iconst 576 1 dX15_statementSort_575 rfl rfl ?_
  refine r_isub 577 dX15_statementSort_576 rfl ?_
  refine r_putI 580 dX15_statementSort_577 fkX15_540 (fun _ => dsT_100 P W _) nn100 rfl rfl ?_
  refine ss_tk (fun G43 => ?_)
  refine r_aload_n 581 0 dX15_statementSort_580 rfl rfl rfl ?_
  refine r_get 584 (aR 149) dX15_statementSort_581 fkX15_93 (fun _ => dsT_100 P W _) nn100 rfl rfl ?_
  refine r_aload_n 585 0 dX15_statementSort_584 rfl rfl rfl ?_
  refine r_get 588 (aI (G43 100 49)) dX15_statementSort_585 fkX15_546 (fun _ => dsT_100 P W _) nn100 rfl rfl ?_
  refine r_aload_n 589 0 dX15_statementSort_588 rfl rfl rfl ?_
  refine r_get 592 (aI (G43 100 34)) dX15_statementSort_589 fkX15_534 (fun _ => dsT_100 P W _) nn100 rfl rfl ?_
  refine r_iast 593 dX15_statementSort_592 (fun _ _ _ => dsT_149 P W _) (fun _ _ => nn149) rfl ?_
  refine ss_tk (fun G44 => ?_)
  refine r_aload_n 594 0 dX15_statementSort_593 rfl rfl rfl ?_
  refine r_dup 595 dX15_statementSort_594 rfl rfl ?_
  refine r_get 598 (aI (G44 100 49)) dX15_statementSort_595 fkX15_546 (fun _ => dsT_100 P W _) nn100 rfl rfl ?_
  refine r_iconst 599 1 dX15_statementSort_598 rfl rfl ?_
  refine r_iadd 600 dX15_statementSort_599 rfl ?_
  refine r_putI 603 dX15_statementSort_600 fkX15_546 (fun _ => dsT_100 P W _) nn100 rfl rfl ?_
  refine ss_tk (fun G45 => ?_)
  refine r_goto 721 dX15_statementSort_603 rfl ?_
  exact r_return dX15_statementSort_721 rfl
theorem s_Tw_statementSort_b606 (P W : Int) (G : St) : SS (MTw_statementSort P W) some 606 [(0, aR 100)] [] G (Tw_statementSort_b606 G) := by
  refine r_aload_n 607 0 dX15_statementSort_606 rfl rfl rfl ?_
  refine r_aload_n 608 0 dX15_statementSort_607 rfl rfl rfl ?_
  refine r_get 611 (aR 149) dX15_statementSort_608 fkX15_93 (fun _ => dsT_100 P W _) nn100 rfl rfl ?_
  refine r_aload_n 612 0 dX15_statementSort_611 rfl rfl rfl ?_
  refine r_get 615 (aI (G 100 49)) dX15_statementSort_612 fkX15_546 (fun _ => dsT_100 P W _) nn100 rfl rfl ?_
  refine r_iconst 616 1 dX15_statementSort_615 rfl rfl ?_
  refine r_isub 617 dX15_statementSort_616 rfl ?_
  refine r_iald 618 dX15_statementSort_617 (fun _ _ _ => dsT_149 P W _) (fun _ _ => nn149) rfl ?_
  refine r_putI 621 dX15_statementSort_618 fkX15_534 (fun _ => dsT_100 P W _) nn100 rfl rfl ?_
  refine ss_tk (fun G46 => ?_)
  refine r_goto 721 dX15_statementSort_621 rfl ?_
  exact r_return dX15_statementSort_721 rfl
theorem s_Tw_statementSort_b695 (P W : Int) (G : St) : SS (MTw_statementSort P W) some 695 [(0, aR 100)] [] G (Tw_statementSort_b695 G) := by
  refine r_aload_n 696 0 dX15_statementSort_695 rfl rfl rfl ?_
  refine r_dup 697 dX15_statementSort_696 rfl rfl ?_
  refine r_get 700 (aI (G 100 49)) dX15_statementSort_697 fkX15_546 (fun _ => dsT_100 P W _) nn100 rfl rfl ?_
  refine r_iconst 701 1 dX15_statementSort_700 rfl rfl ?_
  refine r_isub 702 dX15_statementSort_701 rfl ?_
  refine r_putI 705 dX15_statementSort_702 fkX15_546 (fun _ => dsT_100 P W _) nn100 rfl rfl ?_
  refine ss_tk (fun G47 => ?_)
  refine r_aload_n 706 0 dX15_statementSort_705 rfl rfl rfl ?_
  refine r_aload_n 707 0 dX15_statementSort_706 rfl rfl rfl ?_
  refine r_get 710 (aR 149) dX15_statementSort_707 fkX15_93 (fun _ => dsT_100 P W _) nn100 rfl rfl ?_
  refine r_aload_n 711 0 dX15_statementSort_710 rfl rfl rfl ?_
  refine r_get 714 (aI (G47 100 49)) dX15_statementSort_711 fkX15_546 (fun _ => dsT_100 P W _) nn100 rfl rfl ?_
  refine r_iald 715 dX15_statementSort_714 (fun _ _ _ => dsT_149 P W _) (fun _ _ => nn149) rfl ?_
  refine r_putI 718 dX15_statementSort_715 fkX15_534 (fun _ => dsT_100 P W _) nn100 rfl rfl ?_
  refine ss_tk (fun G48 => ?_)
  refine r_goto 721 dX15_statementSort_718 rfl ?_
  exact r_return dX15_statementSort_721 rfl
theorem s_Tw_statementSort_b624 (P W : Int) (x1 : Int) (G : St) : SS (MTw_statementSort P W) some 624 [(0, aR 100), (1, aI x1)] [] G (Tw_statementSort_b624 x1 G) := by
  refine r_aload_n 625 0 dX15_statementSort_624 rfl rfl rfl ?_
  refine r_iload_n 626 1 dX15_statementSort_625 rfl rfl rfl ?_
  refine r_callvV 629 (Mc := MTw_comes P W) (o := 100) (as := [aI x1]) (st := []) dX15_statementSort_626 rfl (c_Tw_comes P W x1 G) lkX15_592 (cmTw_comes P W) rfl rfl rfl (fun _ => dsT_100 P W _) nn100 rfl (Nat.le_of_ble_eq_true rfl) (Nat.le_of_ble_eq_true rfl) (fun _ => rfl) rfl (fun z49 G50 => ?_)
  refine r_goto 721 dX15_statementSort_629 rfl ?_
  exact r_return dX15_statementSort_721 rfl
theorem s_Tw_statementSort_b644 (P W : Int) (x1 : Int) (G : St) : SS (MTw_statementSort P W) some 644 [(0, aR 100), (1, aI x1)] [] G (Tw_statementSort_b644 x1 G) := by
  refine r_aload_n 645 0 dX15_statementSort_644 rfl rfl rfl ?_
  refine r_dup 646 dX15_statementSort_645 rfl rfl ?_
  refine r_get 649 (aI (G 100 43)) dX15_statementSort_646 fkX15_540 (fun _ => dsT_100 P W _) nn100 rfl rfl ?_
  refine r_iconst 650 2 dX15_statementSort_649 rfl rfl ?_
  refine r_isub 651 dX15_statementSort_650 rfl ?_
  refine r_putI 654 dX15_statementSort_651 fkX15_540 (fun _ => dsT_100 P W _) nn100 rfl rfl ?_
  refine ss_tk (fun G51 => ?_)
  refine r_aload_n 655 0 dX15_statementSort_654 rfl rfl rfl ?_
  refine r_get 658 (aR 149) dX15_statementSort_655 fkX15_93 (fun _ => dsT_100 P W _) nn100 rfl rfl ?_
  refine r_aload_n 659 0 dX15_statementSort_658 rfl rfl rfl ?_
  refine r_get 662 (aI (G51 100 49)) dX15_statementSort_659 fkX15_546 (fun _ => dsT_100 P W _) nn100 rfl rfl ?_
  refine r_aload_n 663 0 dX15_statementSort_662 rfl rfl rfl ?_
  refine r_get 666 (aI (G51 100 34)) dX15_statementSort_663 fkX15_534 (fun _ => dsT_100 P W _) nn100 rfl rfl ?_
  refine r_iast 667 dX15_statementSort_666 (fun _ _ _ => dsT_149 P W _) (fun _ _ => nn149) rfl ?_
  refine ss_tk (fun G52 => ?_)
  refine r_aload_n 668 0 dX15_statementSort_667 rfl rfl rfl ?_
  refine r_dup 669 dX15_statementSort_668 rfl rfl ?_
  refine r_get 672 (aI (G52 100 49)) dX15_statementSort_669 fkX15_546 (fun _ => dsT_100 P W _) nn100 rfl rfl ?_
  refine r_iconst 673 1 dX15_statementSort_672 rfl rfl ?_
  refine r_iadd 674 dX15_statementSort_673 rfl ?_
  refine r_putI 677 dX15_statementSort_674 fkX15_546 (fun _ => dsT_100 P W _) nn100 rfl rfl ?_
  refine ss_tk (fun G53 => ?_)
  refine r_aload_n 678 0 dX15_statementSort_677 rfl rfl rfl ?_
  refine r_aload_n 679 0 dX15_statementSort_678 rfl rfl rfl ?_
  refine r_get 682 (aR 116) dX15_statementSort_679 fkX15_25 (fun _ => dsT_100 P W _) nn100 rfl rfl ?_
  refine r_iload_n 683 1 dX15_statementSort_682 rfl rfl rfl ?_
  refine r_iald 684 dX15_statementSort_683 (fun _ _ _ => dsT_116 P W _) (fun _ _ => nn116) rfl ?_
  refine r_iconst 685 3 dX15_statementSort_684 rfl rfl ?_
  refine r_iconst 686 0 dX15_statementSort_685 rfl rfl ?_
  refine r_iconst 687 0 dX15_statementSort_686 rfl rfl ?_
  refine r_iload_n 688 1 dX15_statementSort_687 rfl rfl rfl ?_
  refine r_callvI 691 (Mc := MTw_symbol P W) (o := 100) (as := [aI (G53 116 x1), aI 3, aI 0, aI 0, aI x1]) (st := []) dX15_statementSort_688 rfl (c_Tw_symbol P W (G53 116 x1) 3 0 0 x1 G53) lkX15_608 (cmTw_symbol P W) rfl rfl rfl (fun _ => dsT_100 P W _) nn100 rfl (Nat.le_of_ble_eq_true rfl) (Nat.le_of_ble_eq_true rfl) (fun _ => rfl) rfl (fun z54 G55 => ?_)
  refine r_istore_n 692 [(2, aI z54), (0, aR 100), (1, aI x1)] dX15_statementSort_691 rfl rfl rfl rfl ?_
  refine r_goto 721 dX15_statementSort_692 rfl ?_
  exact r_return dX15_statementSort_721 rfl
theorem s_Tw_statementSort_b632 (P W : Int) (G : St) : SS (MTw_statementSort P W) some 632 [(0, aR 100)] [] G (Tw_statementSort_b632 G) := by
  refine r_aload_n 633 0 dX15_statementSort_632 rfl rfl rfl ?_
  refine r_iconst 634 0 dX15_statementSort_633 rfl rfl ?_
  refine r_callvV 637 (Mc := MTw_must P W) (o := 100) (as := [aI 0]) (st := []) dX15_statementSort_634 rfl (c_Tw_must P W 0 G) lkX15_574 (cmTw_must P W) rfl rfl rfl (fun _ => dsT_100 P W _) nn100 rfl (Nat.le_of_ble_eq_true rfl) (Nat.le_of_ble_eq_true rfl) (fun _ => rfl) rfl (fun z56 G57 => ?_)
  refine r_aload_n 638 0 dX15_statementSort_637 rfl rfl rfl ?_
  refine r_callvV 641 (Mc := MTw_mustPublic P W) (o := 100) (as := []) (st := []) dX15_statementSort_638 rfl (c_Tw_mustPublic P W G57) lkX15_589 (cmTw_mustPublic P W) rfl rfl rfl (fun _ => dsT_100 P W _) nn100 rfl (Nat.le_of_ble_eq_true rfl) (Nat.le_of_ble_eq_true rfl) (fun _ => rfl) rfl (fun z58 G59 => ?_)
  refine r_goto 721 dX15_statementSort_641 rfl ?_
  exact r_return dX15_statementSort_721 rfl
theorem s_Tw_statementSort_b508 (P W : Int) (x1 : Int) (G : St) : SS (MTw_statementSort P W) some 508 [(0, aR 100), (1, aI x1)] [] G (Tw_statementSort_b508 x1 G) := by
  refine r_aload_n 509 0 dX15_statementSort_508 rfl rfl rfl ?_
  refine r_iconst 510 0 dX15_statementSort_509 rfl rfl ?_
  refine r_callvV 513 (Mc := MTw_must P W) (o := 100) (as := [aI 0]) (st := []) dX15_statementSort_510 rfl (c_Tw_must P W 0 G) lkX15_574 (cmTw_must P W) rfl rfl rfl (fun _ => dsT_100 P W _) nn100 rfl (Nat.le_of_ble_eq_true rfl) (Nat.le_of_ble_eq_true rfl) (fun _ => rfl) rfl (fun z60 G61 => ?_)
  refine r_aload_n 514 0 dX15_statementSort_513 rfl rfl rfl ?_
  refine r_iload_n 515 1 dX15_statementSort_514 rfl rfl rfl ?_
  refine r_aload_n 516 0 dX15_statementSort_515 rfl rfl rfl ?_
  refine r_aload_n 517 0 dX15_statementSort_516 rfl rfl rfl ?_
  refine r_get 520 (aR 116) dX15_statementSort_517 fkX15_25 (fun _ => dsT_100 P W _) nn100 rfl rfl ?_
  refine r_iload_n 521 1 dX15_statementSort_520 rfl rfl rfl ?_
  refine r_iald 522 dX15_statementSort_521 (fun _ _ _ => dsT_116 P W _) (fun _ _ => nn116) rfl ?_
  refine r_callvI 525 (Mc := MTw_visible P W) (o := 100) (as := [aI (G61 116 x1)]) (st := [aI x1, aR 100]) dX15_statementSort_522 rfl (c_Tw_visible P W (G61 116 x1) G61) lkX15_543 (cmTw_visible P W) rfl rfl rfl (fun _ => dsT_100 P W _) nn100 rfl (Nat.le_of_ble_eq_true rfl) (Nat.le_of_ble_eq_true rfl) (fun _ => rfl) rfl (fun z62 G63 => ?_)
  refine r_callvV 528 (Mc := MTw_refer P W) (o := 100) (as := [aI x1, aI z62]) (st := []) dX15_statementSort_525 rfl (c_Tw_refer P W x1 z62 G63) lkX15_571 (cmTw_refer P W) rfl rfl rfl (fun _ => dsT_100 P W _) nn100 rfl (Nat.le_of_ble_eq_true rfl) (Nat.le_of_ble_eq_true rfl) (fun _ => rfl) rfl (fun z64 G65 => ?_)
  refine r_aload_n 529 0 dX15_statementSort_528 rfl rfl rfl ?_
  refine r_get 532 (aR 155) dX15_statementSort_529 fkX15_108 (fun _ => dsT_100 P W _) nn100 rfl rfl ?_
  refine r_iload_n 533 1 dX15_statementSort_532 rfl rfl rfl ?_
  refine r_aload_n 534 0 dX15_statementSort_533 rfl rfl rfl ?_
  refine r_get 537 (aR 146) dX15_statementSort_534 fkX15_87 (fun _ => dsT_100 P W _) nn100 rfl rfl ?_
  refine r_aload_n 538 0 dX15_statementSort_537 rfl rfl rfl ?_
  refine r_get 541 (aI (G65 100 43)) dX15_statementSort_538 fkX15_540 (fun _ => dsT_100 P W _) nn100 rfl rfl ?_
  refine r_iconst 542 1 dX15_statementSort_541 rfl rfl ?_
  refine r_isub 543 dX15_statementSort_542 rfl ?_
  refine r_iald 544 dX15_statementSort_543 (fun _ _ _ => dsT_146 P W _) (fun _ _ => nn146) rfl ?_
  refine r_iast 545 dX15_statementSort_544 (fun _ _ _ => dsT_155 P W _) (fun _ _ => nn155) rfl ?_
  refine ss_tk (fun G66 => ?_)
  refine r_aload_n 546 0 dX15_statementSort_545 rfl rfl rfl ?_
  refine r_get 549 (aR 156) dX15_statementSort_546 fkX15_111 (fun _ => dsT_100 P W _) nn100 rfl rfl ?_
  refine r_iload_n 550 1 dX15_statementSort_549 rfl rfl rfl ?_
  refine r_aload_n 551 0 dX15_statementSort_550 rfl rfl rfl ?_
  refine r_get 554 (aR 147) dX15_statementSort_551 fkX15_90 (fun _ => dsT_100 P W _) nn100 rfl rfl ?_
  refine r_aload_n 555 0 dX15_statementSort_554 rfl rfl rfl ?_
  refine r_get 558 (aI (G66 100 43)) dX15_statementSort_555 fkX15_540 (fun _ => dsT_100 P W _) nn100 rfl rfl ?_
  refine r_iconst 559 1 dX15_statementSort_558 rfl rfl ?_
  refine r_isub 560 dX15_statementSort_559 rfl ?_
  refine r_zald 561 dX15_statementSort_560 (fun _ _ _ => dsT_147 P W _) (fun _ _ => nn147) rfl ?_
  refine r_zast 562 dX15_statementSort_561 (fun _ _ _ => dsT_156 P W _) (fun _ _ => nn156) rfl ?_
  refine ss_tk (fun G67 => ?_)
  refine r_goto 721 dX15_statementSort_562 rfl ?_
  exact r_return dX15_statementSort_721 rfl
theorem s_Tw_statementSort (P W : Int) (x1 : Int) (G : St) : SS (MTw_statementSort P W) some 0 [(0, aR 100), (1, aI x1)] [] G (Tw_statementSort x1 G) := by
  refine r_aload_n 1 0 dX15_statementSort_0 rfl rfl rfl ?_
  refine r_get 4 (aR 115) dX15_statementSort_1 fkX15_22 (fun _ => dsT_100 P W _) nn100 rfl rfl ?_
  refine r_iload_n 5 1 dX15_statementSort_4 rfl rfl rfl ?_
  refine r_iald 6 dX15_statementSort_5 (fun _ _ _ => dsT_115 P W _) (fun _ _ => nn115) rfl ?_
  refine r_tsw 721 [(104, Tw_statementSort_b104 x1 G), (152, Tw_statementSort_b152 x1 G), (104, Tw_statementSort_b104 x1 G), (218, Tw_statementSort_b218 x1 G), (104, Tw_statementSort_b104 x1 G), (144, Tw_statementSort_b144 x1 G), (299, Tw_statementSort_b299 G), (333, Tw_statementSort_b333 x1 G), (424, Tw_statementSort_b424 x1 G), (454, Tw_statementSort_b454 x1 G), (462, Tw_statementSort_b462 x1 G), (454, Tw_statementSort_b454 x1 G), (500, Tw_statementSort_b500 x1 G), (565, Tw_statementSort_b565 G), (606, Tw_statementSort_b606 G), (695, Tw_statementSort_b695 G), (624, Tw_statementSort_b624 x1 G), (644, Tw_statementSort_b644 x1 G), (695, Tw_statementSort_b695 G), (632, Tw_statementSort_b632 G), (508, Tw_statementSort_b508 x1 G)] dX15_statementSort_6 rfl rfl rfl ⟨?_, ?_, ?_, ?_, ?_, ?_, ?_, ?_, ?_, ?_, ?_, ?_, ?_, ?_, ?_, ?_, ?_, ?_, ?_, ?_, ?_, trivial⟩ ?_
  · exact s_Tw_statementSort_b104 P W x1 G
  · exact s_Tw_statementSort_b152 P W x1 G
  · exact s_Tw_statementSort_b104 P W x1 G
  · exact s_Tw_statementSort_b218 P W x1 G
  · exact s_Tw_statementSort_b104 P W x1 G
  · exact s_Tw_statementSort_b144 P W x1 G
  · refine r_to [0] [(0, aR 100)] rfl ?_
    exact s_Tw_statementSort_b299 P W G
  · exact s_Tw_statementSort_b333 P W x1 G
  · exact s_Tw_statementSort_b424 P W x1 G
  · exact s_Tw_statementSort_b454 P W x1 G
  · exact s_Tw_statementSort_b462 P W x1 G
  · exact s_Tw_statementSort_b454 P W x1 G
  · exact s_Tw_statementSort_b500 P W x1 G
  · refine r_to [0] [(0, aR 100)] rfl ?_
    exact s_Tw_statementSort_b565 P W G
  · refine r_to [0] [(0, aR 100)] rfl ?_
    exact s_Tw_statementSort_b606 P W G
  · refine r_to [0] [(0, aR 100)] rfl ?_
    exact s_Tw_statementSort_b695 P W G
  · exact s_Tw_statementSort_b624 P W x1 G
  · exact s_Tw_statementSort_b644 P W x1 G
  · refine r_to [0] [(0, aR 100)] rfl ?_
    exact s_Tw_statementSort_b695 P W G
  · refine r_to [0] [(0, aR 100)] rfl ?_
    exact s_Tw_statementSort_b632 P W G
  · exact s_Tw_statementSort_b508 P W x1 G
  · exact r_return dX15_statementSort_721 rfl
theorem c_Tw_statementSort (P W : Int) (x1 : Int) (G : St) : MG (MTw_statementSort P W) [aR 100, aI x1] G (Tw_statementSort x1 G) := MG.of plX15 (Nat.le_of_ble_eq_true rfl) (s_Tw_statementSort P W x1 G)
theorem s_Tw_sorts_b76 (P W : Int) (X37 : Int × St → Option (Int × St)) (hX37 : ∀ s, So (MTw_sorts P W) 37 [(0, aR 100), (1, aI (s.1))] [] s.2 (X37 s)) (x1 : Int) (G : St) : SS (MTw_sorts P W) (lk X37 some) 76 [(0, aR 100), (1, aI x1)] [] G (Tw_sorts_b76 x1 G) := by
  refine r_iinc 79 [(1, aI (x1 + 1)), (0, aR 100)] 1 dX15_sorts_76 rfl rfl rfl rfl ?_
  refine r_goto 37 dX15_sorts_79 rfl ?_
  refine r_to [1, 0] [(0, aR 100), (1, aI (x1 + 1))] rfl ?_
  exact SS.back (hX37 (x1 + 1, G))
theorem s_Tw_sorts_s37 (P W : Int) (X37 : Int × St → Option (Int × St)) (hX37 : ∀ s, So (MTw_sorts P W) 37 [(0, aR 100), (1, aI (s.1))] [] s.2 (X37 s)) (x1 : Int) (G : St) : SS (MTw_sorts P W) (lk X37 some) 37 [(0, aR 100), (1, aI x1)] [] G (Tw_sorts_s37 x1 G) := by
  refine r_iload_n 38 1 dX15_sorts_37 rfl rfl rfl ?_
  refine r_aload_n 39 0 dX15_sorts_38 rfl rfl rfl ?_
  refine r_get 42 (aI (G 100 13)) dX15_sorts_39 fkX15_411 (fun _ => dsT_100 P W _) nn100 rfl rfl ?_
  refine r_icmp_ge 82 45 dX15_sorts_42 rfl rfl ?_ ?_
  · refine SS.ex ?_
    exact r_return dX15_sorts_82 rfl
  · refine r_aload_n 46 0 dX15_sorts_45 rfl rfl rfl ?_
    refine r_get 49 (aI (G 100 7)) dX15_sorts_46 fkX15_323 (fun _ => dsT_100 P W _) nn100 rfl rfl ?_
    refine r_if_ne 82 52 dX15_sorts_49 rfl rfl ?_ ?_
    · refine SS.ex ?_
      exact r_return dX15_sorts_82 rfl
    · refine r_aload_n 53 0 dX15_sorts_52 rfl rfl rfl ?_
      refine r_get 56 (aR 115) dX15_sorts_53 fkX15_22 (fun _ => dsT_100 P W _) nn100 rfl rfl ?_
      refine r_iload_n 57 1 dX15_sorts_56 rfl rfl rfl ?_
      refine r_iald 58 dX15_sorts_57 (fun _ _ _ => dsT_115 P W _) (fun _ _ => nn115) rfl ?_
      refine r_bipush 60 20 dX15_sorts_58 rfl rfl ?_
      refine r_icmp_ge 71 63 dX15_sorts_60 rfl rfl ?_ ?_
      · refine r_aload_n 72 0 dX15_sorts_71 rfl rfl rfl ?_
        refine r_iload_n 73 1 dX15_sorts_72 rfl rfl rfl ?_
        refine r_callvV 76 (Mc := MTw_statementSort P W) (o := 100) (as := [aI x1]) (st := []) dX15_sorts_73 rfl (c_Tw_statementSort P W x1 G) lkX15_561 (cmTw_statementSort P W) rfl rfl rfl (fun _ => dsT_100 P W _) nn100 rfl (Nat.le_of_ble_eq_true rfl) (Nat.le_of_ble_eq_true rfl) (fun _ => rfl) rfl (fun z8 G9 => ?_)
        exact s_Tw_sorts_b76 P W X37 hX37 x1 G9
      · refine r_aload_n 64 0 dX15_sorts_63 rfl rfl rfl ?_
        refine r_iload_n 65 1 dX15_sorts_64 rfl rfl rfl ?_
        refine r_callvV 68 (Mc := MTw_operandSort P W) (o := 100) (as := [aI x1]) (st := []) dX15_sorts_65 rfl (c_Tw_operandSort P W x1 G) lkX15_558 (cmTw_operandSort P W) rfl rfl rfl (fun _ => dsT_100 P W _) nn100 rfl (Nat.le_of_ble_eq_true rfl) (Nat.le_of_ble_eq_true rfl) (fun _ => rfl) rfl (fun z10 G11 => ?_)
        refine r_goto 76 dX15_sorts_68 rfl ?_
        exact s_Tw_sorts_b76 P W X37 hX37 x1 G11
theorem sl_Tw_sorts_37 (P W : Int) (x1 : Int) (G : St) : SS (MTw_sorts P W) some 37 [(0, aR 100), (1, aI x1)] [] G (Tw_sorts_l37 x1 G) := by
  exact SS.loop (σ := Int × St) (fun s => [(0, aR 100), (1, aI (s.1))]) (fun s => s.2) (fun s => Tw_sorts_s37 s.1 s.2) (fun X37 hX37 s => s_Tw_sorts_s37 P W   X37 hX37 s.1 s.2) (x1, G)
theorem s_Tw_sorts (P W : Int) (G : St) : SS (MTw_sorts P W) some 0 [(0, aR 100)] [] G (Tw_sorts G) := by
  refine r_aload_n 1 0 dX15_sorts_0 rfl rfl rfl ?_
  refine r_iconst 2 0 dX15_sorts_1 rfl rfl ?_
  refine r_putI 5 dX15_sorts_2 fkX15_534 (fun _ => dsT_100 P W _) nn100 rfl rfl ?_
  refine ss_tk (fun G1 => ?_)
  refine r_aload_n 6 0 dX15_sorts_5 rfl rfl rfl ?_
  refine r_iconst 7 0 dX15_sorts_6 rfl rfl ?_
  refine r_putI 10 dX15_sorts_7 fkX15_540 (fun _ => dsT_100 P W _) nn100 rfl rfl ?_
  refine ss_tk (fun G2 => ?_)
  refine r_aload_n 11 0 dX15_sorts_10 rfl rfl rfl ?_
  refine r_iconst 12 0 dX15_sorts_11 rfl rfl ?_
  refine r_putI 15 dX15_sorts_12 fkX15_546 (fun _ => dsT_100 P W _) nn100 rfl rfl ?_
  refine ss_tk (fun G3 => ?_)
  refine r_aload_n 16 0 dX15_sorts_15 rfl rfl rfl ?_
  refine r_iconst 17 0 dX15_sorts_16 rfl rfl ?_
  refine r_putI 20 dX15_sorts_17 fkX15_549 (fun _ => dsT_100 P W _) nn100 rfl rfl ?_
  refine ss_tk (fun G4 => ?_)
  refine r_aload_n 21 0 dX15_sorts_20 rfl rfl rfl ?_
  refine r_iconst 22 0 dX15_sorts_21 rfl rfl ?_
  refine r_putI 25 dX15_sorts_22 fkX15_552 (fun _ => dsT_100 P W _) nn100 rfl rfl ?_
  refine ss_tk (fun G5 => ?_)
  refine r_aload_n 26 0 dX15_sorts_25 rfl rfl rfl ?_
  refine r_iconst 27 0 dX15_sorts_26 rfl rfl ?_
  refine r_putZ 30 dX15_sorts_27 fkX15_537 (fun _ => dsT_100 P W _) nn100 rfl rfl ?_
  refine ss_tk (fun G6 => ?_)
  refine r_aload_n 31 0 dX15_sorts_30 rfl rfl rfl ?_
  refine r_iconst 32 0 dX15_sorts_31 rfl rfl ?_
  refine r_putI 35 dX15_sorts_32 fkX15_555 (fun _ => dsT_100 P W _) nn100 rfl rfl ?_
  refine ss_tk (fun G7 => ?_)
  refine r_iconst 36 0 dX15_sorts_35 rfl rfl ?_
  refine r_istore_n 37 [(1, aI 0), (0, aR 100)] dX15_sorts_36 rfl rfl rfl rfl ?_
  refine r_to [1, 0] [(0, aR 100), (1, aI 0)] rfl ?_
  exact sl_Tw_sorts_37 P W 0 G7
theorem c_Tw_sorts (P W : Int) (G : St) : MG (MTw_sorts P W) [aR 100] G (Tw_sorts G) := MG.of plX15 (Nat.le_of_ble_eq_true rfl) (s_Tw_sorts P W G)
theorem s_Tw_compile_b167 (P W : Int) (G : St) : SS (MTw_compile P W) some 167 [(0, aR 100)] [] G (Tw_compile_b167 P W G) := by
  refine r_aload_n 168 0 dX15_compile_167 rfl rfl rfl ?_
  refine r_get 171 (aI (G 100 7)) dX15_compile_168 fkX15_323 (fun _ => dsT_100 P W _) nn100 rfl rfl ?_
  exact r_ireturn dX15_compile_171 rfl
theorem s_Tw_compile_s133 (P W : Int) (X133 : Int × St → Option (Int × St)) (hX133 : ∀ s, So (MTw_compile P W) 133 [(0, aR 100), (1, aI (s.1))] [] s.2 (X133 s)) (x1 : Int) (G : St) : SS (MTw_compile P W) (lk X133 some) 133 [(0, aR 100), (1, aI x1)] [] G (Tw_compile_s133 P W x1 G) := by
  refine r_iload_n 134 1 dX15_compile_133 rfl rfl rfl ?_
  refine r_aload_n 135 0 dX15_compile_134 rfl rfl rfl ?_
  refine r_get 138 (aI (G 100 75)) dX15_compile_135 fkX15_663 (fun _ => dsT_100 P W _) nn100 rfl rfl ?_
  refine r_icmp_ge 167 141 dX15_compile_138 rfl rfl ?_ ?_
  · refine SS.ex ?_
    refine r_to [0] [(0, aR 100)] rfl ?_
    exact s_Tw_compile_b167 P W G
  · refine r_aload_n 142 0 dX15_compile_141 rfl rfl rfl ?_
    refine r_get 145 (aR 245) dX15_compile_142 fkX15_296 (fun _ => dsT_100 P W _) nn100 rfl rfl ?_
    refine r_aload_n 146 0 dX15_compile_145 rfl rfl rfl ?_
    refine r_get 149 (aR 177) dX15_compile_146 fkX15_136 (fun _ => dsT_100 P W _) nn100 rfl rfl ?_
    refine r_iload_n 150 1 dX15_compile_149 rfl rfl rfl ?_
    refine r_iald 151 dX15_compile_150 (fun _ _ _ => dsT_177 P W _) (fun _ _ => nn177) rfl ?_
    refine r_dup2 152 dX15_compile_151 rfl rfl rfl ?_
    refine r_iald 153 dX15_compile_152 (fun _ _ _ => dsT_245 P W _) (fun _ _ => nn245) rfl ?_
    refine r_aload_n 154 0 dX15_compile_153 rfl rfl rfl ?_
    refine r_get 157 (aR 178) dX15_compile_154 fkX15_139 (fun _ => dsT_100 P W _) nn100 rfl rfl ?_
    refine r_iload_n 158 1 dX15_compile_157 rfl rfl rfl ?_
    refine r_iald 159 dX15_compile_158 (fun _ _ _ => dsT_178 P W _) (fun _ _ => nn178) rfl ?_
    refine r_iadd 160 dX15_compile_159 rfl ?_
    refine r_iast 161 dX15_compile_160 (fun _ _ _ => dsT_245 P W _) (fun _ _ => nn245) rfl ?_
    refine ss_tk (fun G12 => ?_)
    refine r_iinc 164 [(1, aI (x1 + 1)), (0, aR 100)] 1 dX15_compile_161 rfl rfl rfl rfl ?_
    refine r_goto 133 dX15_compile_164 rfl ?_
    refine r_to [1, 0] [(0, aR 100), (1, aI (x1 + 1))] rfl ?_
    exact SS.back (hX133 (x1 + 1, G12))
theorem sl_Tw_compile_133 (P W : Int) (x1 : Int) (G : St) : SS (MTw_compile P W) some 133 [(0, aR 100), (1, aI x1)] [] G (Tw_compile_l133 P W x1 G) := by
  exact SS.loop (σ := Int × St) (fun s => [(0, aR 100), (1, aI (s.1))]) (fun s => s.2) (fun s => Tw_compile_s133 P W s.1 s.2) (fun X133 hX133 s => s_Tw_compile_s133 P W   X133 hX133 s.1 s.2) (x1, G)
theorem s_Tw_compile_s110 (P W : Int) (X110 : Int × St → Option (Int × St)) (hX110 : ∀ s, So (MTw_compile P W) 110 [(0, aR 100), (1, aI (s.1))] [] s.2 (X110 s)) (x1 : Int) (G : St) : SS (MTw_compile P W) (lk X110 some) 110 [(0, aR 100), (1, aI x1)] [] G (Tw_compile_s110 P W x1 G) := by
  refine r_iload_n 111 1 dX15_compile_110 rfl rfl rfl ?_
  refine r_aload_n 112 0 dX15_compile_111 rfl rfl rfl ?_
  refine r_get 115 (aI P) dX15_compile_112 fkX15_299 (fun _ => dsT_100 P W _) nn100 rfl rfl ?_
  refine r_icmp_ge 131 118 dX15_compile_115 rfl rfl ?_ ?_
  · refine SS.ex ?_
    refine r_iconst 132 0 dX15_compile_131 rfl rfl ?_
    refine r_istore_n 133 [(1, aI 0), (0, aR 100)] dX15_compile_132 rfl rfl rfl rfl ?_
    refine r_to [1, 0] [(0, aR 100), (1, aI 0)] rfl ?_
    exact sl_Tw_compile_133 P W 0 G
  · refine r_aload_n 119 0 dX15_compile_118 rfl rfl rfl ?_
    refine r_get 122 (aR 245) dX15_compile_119 fkX15_296 (fun _ => dsT_100 P W _) nn100 rfl rfl ?_
    refine r_iload_n 123 1 dX15_compile_122 rfl rfl rfl ?_
    refine r_iconst 124 0 dX15_compile_123 rfl rfl ?_
    refine r_iast 125 dX15_compile_124 (fun _ _ _ => dsT_245 P W _) (fun _ _ => nn245) rfl ?_
    refine ss_tk (fun G13 => ?_)
    refine r_iinc 128 [(1, aI (x1 + 1)), (0, aR 100)] 1 dX15_compile_125 rfl rfl rfl rfl ?_
    refine r_goto 110 dX15_compile_128 rfl ?_
    refine r_to [1, 0] [(0, aR 100), (1, aI (x1 + 1))] rfl ?_
    exact SS.back (hX110 (x1 + 1, G13))
theorem sl_Tw_compile_110 (P W : Int) (x1 : Int) (G : St) : SS (MTw_compile P W) some 110 [(0, aR 100), (1, aI x1)] [] G (Tw_compile_l110 P W x1 G) := by
  exact SS.loop (σ := Int × St) (fun s => [(0, aR 100), (1, aI (s.1))]) (fun s => s.2) (fun s => Tw_compile_s110 P W s.1 s.2) (fun X110 hX110 s => s_Tw_compile_s110 P W   X110 hX110 s.1 s.2) (x1, G)
theorem s_Tw_compile_s79 (P W : Int) (X79 : Int × St → Option (Int × St)) (hX79 : ∀ s, So (MTw_compile P W) 79 [(0, aR 100), (1, aI (s.1))] [] s.2 (X79 s)) (x1 : Int) (G : St) : SS (MTw_compile P W) (lk X79 some) 79 [(0, aR 100), (1, aI x1)] [] G (Tw_compile_s79 P W x1 G) := by
  refine r_iload_n 80 1 dX15_compile_79 rfl rfl rfl ?_
  refine r_aload_n 81 0 dX15_compile_80 rfl rfl rfl ?_
  refine r_get 84 (aI (G 100 69)) dX15_compile_81 fkX15_672 (fun _ => dsT_100 P W _) nn100 rfl rfl ?_
  refine r_icmp_ge 108 87 dX15_compile_84 rfl rfl ?_ ?_
  · refine SS.ex ?_
    refine r_iconst 109 0 dX15_compile_108 rfl rfl ?_
    refine r_istore_n 110 [(1, aI 0), (0, aR 100)] dX15_compile_109 rfl rfl rfl rfl ?_
    refine r_to [1, 0] [(0, aR 100), (1, aI 0)] rfl ?_
    exact sl_Tw_compile_110 P W 0 G
  · refine r_aload_n 88 0 dX15_compile_87 rfl rfl rfl ?_
    refine r_dup 89 dX15_compile_88 rfl rfl ?_
    refine r_get 92 (aI (G 100 145)) dX15_compile_89 fkX15_824 (fun _ => dsT_100 P W _) nn100 rfl rfl ?_
    refine r_aload_n 93 0 dX15_compile_92 rfl rfl rfl ?_
    refine r_get 96 (aR 182) dX15_compile_93 fkX15_151 (fun _ => dsT_100 P W _) nn100 rfl rfl ?_
    refine r_iload_n 97 1 dX15_compile_96 rfl rfl rfl ?_
    refine r_iald 98 dX15_compile_97 (fun _ _ _ => dsT_182 P W _) (fun _ _ => nn182) rfl ?_
    refine r_iadd 99 dX15_compile_98 rfl ?_
    refine r_putI 102 dX15_compile_99 fkX15_824 (fun _ => dsT_100 P W _) nn100 rfl rfl ?_
    refine ss_tk (fun G14 => ?_)
    refine r_iinc 105 [(1, aI (x1 + 1)), (0, aR 100)] 1 dX15_compile_102 rfl rfl rfl rfl ?_
    refine r_goto 79 dX15_compile_105 rfl ?_
    refine r_to [1, 0] [(0, aR 100), (1, aI (x1 + 1))] rfl ?_
    exact SS.back (hX79 (x1 + 1, G14))
theorem sl_Tw_compile_79 (P W : Int) (x1 : Int) (G : St) : SS (MTw_compile P W) some 79 [(0, aR 100), (1, aI x1)] [] G (Tw_compile_l79 P W x1 G) := by
  exact SS.loop (σ := Int × St) (fun s => [(0, aR 100), (1, aI (s.1))]) (fun s => s.2) (fun s => Tw_compile_s79 P W s.1 s.2) (fun X79 hX79 s => s_Tw_compile_s79 P W   X79 hX79 s.1 s.2) (x1, G)
theorem s_Tw_compile_b53 (P W : Int) (s0 : Int) (G : St) : SS (MTw_compile P W) some 53 [(0, aR 100)] [aI s0, aR 100] G (Tw_compile_b53 P W s0 G) := by
  refine r_putZ 56 dX15_compile_53 fkX15_848 (fun _ => dsT_100 P W _) nn100 rfl rfl ?_
  refine ss_tk (fun G7 => ?_)
  refine r_aload_n 57 0 dX15_compile_56 rfl rfl rfl ?_
  refine r_iconst 58 0 dX15_compile_57 rfl rfl ?_
  refine r_putI 61 dX15_compile_58 fkX15_320 (fun _ => dsT_100 P W _) nn100 rfl rfl ?_
  refine ss_tk (fun G8 => ?_)
  refine r_aload_n 62 0 dX15_compile_61 rfl rfl rfl ?_
  refine r_get 65 (aI (G8 100 83)) dX15_compile_62 fkX15_848 (fun _ => dsT_100 P W _) nn100 rfl rfl ?_
  refine r_if_eq 167 68 dX15_compile_65 rfl rfl ?_ ?_
  · exact s_Tw_compile_b167 P W G8
  · refine r_aload_n 69 0 dX15_compile_68 rfl rfl rfl ?_
    refine r_callvV 72 (Mc := MTw_levels P W) (o := 100) (as := []) (st := []) dX15_compile_69 rfl (c_Tw_levels P W G8) lkX15_851 (cmTw_levels P W) rfl rfl rfl (fun _ => dsT_100 P W _) nn100 rfl (Nat.le_of_ble_eq_true rfl) (Nat.le_of_ble_eq_true rfl) (fun _ => rfl) rfl (fun z9 G10 => ?_)
    refine r_aload_n 73 0 dX15_compile_72 rfl rfl rfl ?_
    refine r_iconst 74 0 dX15_compile_73 rfl rfl ?_
    refine r_putI 77 dX15_compile_74 fkX15_824 (fun _ => dsT_100 P W _) nn100 rfl rfl ?_
    refine ss_tk (fun G11 => ?_)
    refine r_iconst 78 0 dX15_compile_77 rfl rfl ?_
    refine r_istore_n 79 [(1, aI 0), (0, aR 100)] dX15_compile_78 rfl rfl rfl rfl ?_
    refine r_to [1, 0] [(0, aR 100), (1, aI 0)] rfl ?_
    exact sl_Tw_compile_79 P W 0 G11
theorem s_Tw_compile_b40 (P W : Int) (G : St) : SS (MTw_compile P W) some 40 [(0, aR 100)] [] G (Tw_compile_b40 P W G) := by
  refine r_aload_n 41 0 dX15_compile_40 rfl rfl rfl ?_
  refine r_aload_n 42 0 dX15_compile_41 rfl rfl rfl ?_
  refine r_get 45 (aI (G 100 7)) dX15_compile_42 fkX15_323 (fun _ => dsT_100 P W _) nn100 rfl rfl ?_
  refine SS.phi (fun VV_ => Tw_compile_b53 P W VV_ G) ?_
  refine r_if_ne 52 48 dX15_compile_45 rfl rfl ?_ ?_
  · refine r_iconst 53 0 dX15_compile_52 rfl rfl ?_
    exact s_Tw_compile_b53 P W 0 G
  · refine r_iconst 49 1 dX15_compile_48 rfl rfl ?_
    refine r_goto 53 dX15_compile_49 rfl ?_
    exact s_Tw_compile_b53 P W 1 G
theorem s_Tw_compile_b29 (P W : Int) (G : St) : SS (MTw_compile P W) some 29 [(0, aR 100)] [] G (Tw_compile_b29 P W G) := by
  refine r_aload_n 30 0 dX15_compile_29 rfl rfl rfl ?_
  refine r_get 33 (aI (G 100 7)) dX15_compile_30 fkX15_323 (fun _ => dsT_100 P W _) nn100 rfl rfl ?_
  refine r_if_ne 40 36 dX15_compile_33 rfl rfl ?_ ?_
  · exact s_Tw_compile_b40 P W G
  · refine r_aload_n 37 0 dX15_compile_36 rfl rfl rfl ?_
    refine r_callvV 40 (Mc := MTw_build P W) (o := 100) (as := []) (st := []) dX15_compile_37 rfl (c_Tw_build P W G) lkX15_845 (cmTw_build P W) rfl rfl rfl (fun _ => dsT_100 P W _) nn100 rfl (Nat.le_of_ble_eq_true rfl) (Nat.le_of_ble_eq_true rfl) (fun _ => rfl) rfl (fun z15 G16 => ?_)
    exact s_Tw_compile_b40 P W G16
theorem s_Tw_compile (P W : Int) (G : St) : SS (MTw_compile P W) some 0 [(0, aR 100)] [] G (Tw_compile P W G) := by
  refine r_aload_n 1 0 dX15_compile_0 rfl rfl rfl ?_
  refine r_iconst 2 0 dX15_compile_1 rfl rfl ?_
  refine r_putI 5 dX15_compile_2 fkX15_323 (fun _ => dsT_100 P W _) nn100 rfl rfl ?_
  refine ss_tk (fun G1 => ?_)
  refine r_aload_n 6 0 dX15_compile_5 rfl rfl rfl ?_
  refine r_iconst 7 (-1) dX15_compile_6 rfl rfl ?_
  refine r_putI 10 dX15_compile_7 fkX15_313 (fun _ => dsT_100 P W _) nn100 rfl rfl ?_
  refine ss_tk (fun G2 => ?_)
  refine r_aload_n 11 0 dX15_compile_10 rfl rfl rfl ?_
  refine r_callvV 14 (Mc := MTw_forget P W) (o := 100) (as := []) (st := []) dX15_compile_11 rfl (c_Tw_forget P W G2) lkX15_836 (cmTw_forget P W) rfl rfl rfl (fun _ => dsT_100 P W _) nn100 rfl (Nat.le_of_ble_eq_true rfl) (Nat.le_of_ble_eq_true rfl) (fun _ => rfl) rfl (fun z3 G4 => ?_)
  refine r_aload_n 15 0 dX15_compile_14 rfl rfl rfl ?_
  refine r_callvV 18 (Mc := MTw_program P W) (o := 100) (as := []) (st := []) dX15_compile_15 rfl (c_Tw_program P W G4) lkX15_839 (cmTw_program P W) rfl rfl rfl (fun _ => dsT_100 P W _) nn100 rfl (Nat.le_of_ble_eq_true rfl) (Nat.le_of_ble_eq_true rfl) (fun _ => rfl) rfl (fun z5 G6 => ?_)
  refine r_aload_n 19 0 dX15_compile_18 rfl rfl rfl ?_
  refine r_get 22 (aI (G6 100 7)) dX15_compile_19 fkX15_323 (fun _ => dsT_100 P W _) nn100 rfl rfl ?_
  refine r_if_ne 29 25 dX15_compile_22 rfl rfl ?_ ?_
  · exact s_Tw_compile_b29 P W G6
  · refine r_aload_n 26 0 dX15_compile_25 rfl rfl rfl ?_
    refine r_callvV 29 (Mc := MTw_sorts P W) (o := 100) (as := []) (st := []) dX15_compile_26 rfl (c_Tw_sorts P W G6) lkX15_842 (cmTw_sorts P W) rfl rfl rfl (fun _ => dsT_100 P W _) nn100 rfl (Nat.le_of_ble_eq_true rfl) (Nat.le_of_ble_eq_true rfl) (fun _ => rfl) rfl (fun z17 G18 => ?_)
    exact s_Tw_compile_b29 P W G18
theorem c_Tw_compile (P W : Int) (G : St) : MG (MTw_compile P W) [aR 100] G (Tw_compile P W G) := MG.of plX15 (Nat.le_of_ble_eq_true rfl) (s_Tw_compile P W G)
theorem s_Tw_done_b40 (P W : Int) (X4 : Int × Int × St → Option (Int × St)) (hX4 : ∀ s, So (MTw_done P W) 4 [(0, aR 100), (1, aI (s.1)), (2, aI (s.2.1))] [] s.2.2 (X4 s)) (x2 : Int) (s0 : Int) (s1 : Int) (G : St) : SS (MTw_done P W) (lk X4 some) 40 [(0, aR 100), (2, aI x2)] [aI s0, aI s1] G (Tw_done_b40 P W x2 s0 s1 G) := by
  refine r_iadd 41 dX15_done_40 rfl ?_
  refine r_istore_n 42 [(1, aI (s1 + s0)), (0, aR 100), (2, aI x2)] dX15_done_41 rfl rfl rfl rfl ?_
  refine r_iinc 45 [(2, aI (x2 + 1)), (1, aI (s1 + s0)), (0, aR 100)] 2 dX15_done_42 rfl rfl rfl rfl ?_
  refine r_goto 4 dX15_done_45 rfl ?_
  refine r_to [2, 1, 0] [(0, aR 100), (1, aI (s1 + s0)), (2, aI (x2 + 1))] rfl ?_
  exact SS.back (hX4 (s1 + s0, x2 + 1, G))
theorem s_Tw_done_s4 (P W : Int) (X4 : Int × Int × St → Option (Int × St)) (hX4 : ∀ s, So (MTw_done P W) 4 [(0, aR 100), (1, aI (s.1)), (2, aI (s.2.1))] [] s.2.2 (X4 s)) (x1 : Int) (x2 : Int) (G : St) : SS (MTw_done P W) (lk X4 some) 4 [(0, aR 100), (1, aI x1), (2, aI x2)] [] G (Tw_done_s4 P W x1 x2 G) := by
  refine r_iload_n 5 2 dX15_done_4 rfl rfl rfl ?_
  refine r_aload_n 6 0 dX15_done_5 rfl rfl rfl ?_
  refine r_get 9 (aI P) dX15_done_6 fkX15_299 (fun _ => dsT_100 P W _) nn100 rfl rfl ?_
  refine r_icmp_ge 48 12 dX15_done_9 rfl rfl ?_ ?_
  · refine SS.ex ?_
    refine r_iload_n 49 1 dX15_done_48 rfl rfl rfl ?_
    exact r_ireturn dX15_done_49 rfl
  · refine r_iload_n 13 1 dX15_done_12 rfl rfl rfl ?_
    refine r_aload_n 14 0 dX15_done_13 rfl rfl rfl ?_
    refine r_get 17 (aI (G 100 124)) dX15_done_14 fkX15_762 (fun _ => dsT_100 P W _) nn100 rfl rfl ?_
    refine r_if_eq 39 20 dX15_done_17 rfl rfl ?_ ?_
    · refine r_iconst 40 0 dX15_done_39 rfl rfl ?_
      refine r_to [0, 2] [(0, aR 100), (2, aI x2)] rfl ?_
      exact s_Tw_done_b40 P W X4 hX4 x2 0 x1 G
    · refine r_aload_n 21 0 dX15_done_20 rfl rfl rfl ?_
      refine r_get 24 (aR 233) dX15_done_21 fkX15_265 (fun _ => dsT_100 P W _) nn100 rfl rfl ?_
      refine r_iload_n 25 2 dX15_done_24 rfl rfl rfl ?_
      refine r_iald 26 dX15_done_25 (fun _ _ _ => dsT_233 P W _) (fun _ _ => nn233) rfl ?_
      refine r_aload_n 27 0 dX15_done_26 rfl rfl rfl ?_
      refine r_get 30 (aI (G 100 68)) dX15_done_27 fkX15_633 (fun _ => dsT_100 P W _) nn100 rfl rfl ?_
      refine r_iconst 31 2 dX15_done_30 rfl rfl ?_
      refine r_iadd 32 dX15_done_31 rfl ?_
      refine SS.phi (fun VV_ => Tw_done_b40 P W x2 VV_ x1 G) ?_
      refine r_icmp_ne 39 35 dX15_done_32 rfl rfl ?_ ?_
      · refine r_iconst 40 0 dX15_done_39 rfl rfl ?_
        refine r_to [0, 2] [(0, aR 100), (2, aI x2)] rfl ?_
        exact s_Tw_done_b40 P W X4 hX4 x2 0 x1 G
      · refine r_iconst 36 1 dX15_done_35 rfl rfl ?_
        refine r_goto 40 dX15_done_36 rfl ?_
        refine r_to [0, 2] [(0, aR 100), (2, aI x2)] rfl ?_
        exact s_Tw_done_b40 P W X4 hX4 x2 1 x1 G
theorem sl_Tw_done_4 (P W : Int) (x1 : Int) (x2 : Int) (G : St) : SS (MTw_done P W) some 4 [(0, aR 100), (1, aI x1), (2, aI x2)] [] G (Tw_done_l4 P W x1 x2 G) := by
  exact SS.loop (σ := Int × Int × St) (fun s => [(0, aR 100), (1, aI (s.1)), (2, aI (s.2.1))]) (fun s => s.2.2) (fun s => Tw_done_s4 P W s.1 s.2.1 s.2.2) (fun X4 hX4 s => s_Tw_done_s4 P W   X4 hX4 s.1 s.2.1 s.2.2) (x1, x2, G)
theorem s_Tw_done (P W : Int) (G : St) : SS (MTw_done P W) some 0 [(0, aR 100)] [] G (Tw_done P W G) := by
  refine r_iconst 1 0 dX15_done_0 rfl rfl ?_
  refine r_istore_n 2 [(1, aI 0), (0, aR 100)] dX15_done_1 rfl rfl rfl rfl ?_
  refine r_iconst 3 0 dX15_done_2 rfl rfl ?_
  refine r_istore_n 4 [(2, aI 0), (1, aI 0), (0, aR 100)] dX15_done_3 rfl rfl rfl rfl ?_
  refine r_to [2, 1, 0] [(0, aR 100), (1, aI 0), (2, aI 0)] rfl ?_
  exact sl_Tw_done_4 P W 0 0 G
theorem c_Tw_done (P W : Int) (G : St) : MG (MTw_done P W) [aR 100] G (Tw_done P W G) := MG.of plX15 (Nat.le_of_ble_eq_true rfl) (s_Tw_done P W G)
theorem s_Tw_look_b96 (P W : Int) (G : St) : SS (MTw_look P W) some 96 [(0, aR 100)] [] G (Tw_look_b96 P W G) := by
  refine r_aload_n 97 0 dX15_look_96 rfl rfl rfl ?_
  refine r_get 100 (aI (G 100 8)) dX15_look_97 fkX15_313 (fun _ => dsT_100 P W _) nn100 rfl rfl ?_
  exact r_ireturn dX15_look_100 rfl
theorem s_Tw_look_b101 (P W : Int) (G : St) : SS (MTw_look P W) some 101 [(0, aR 100)] [] G (Tw_look_b101 P W G) := by
  refine r_aload_n 102 0 dX15_look_101 rfl rfl rfl ?_
  refine r_get 105 (aI (G 100 66)) dX15_look_102 fkX15_624 (fun _ => dsT_100 P W _) nn100 rfl rfl ?_
  exact r_ireturn dX15_look_105 rfl
theorem s_Tw_look_b106 (P W : Int) (G : St) : SS (MTw_look P W) some 106 [(0, aR 100)] [] G (Tw_look_b106 P W G) := by
  refine r_aload_n 107 0 dX15_look_106 rfl rfl rfl ?_
  refine r_get 110 (aI (G 100 67)) dX15_look_107 fkX15_630 (fun _ => dsT_100 P W _) nn100 rfl rfl ?_
  exact r_ireturn dX15_look_110 rfl
theorem s_Tw_look_b111 (P W : Int) (G : St) : SS (MTw_look P W) some 111 [(0, aR 100)] [] G (Tw_look_b111 P W G) := by
  refine r_aload_n 112 0 dX15_look_111 rfl rfl rfl ?_
  refine r_get 115 (aI (G 100 68)) dX15_look_112 fkX15_633 (fun _ => dsT_100 P W _) nn100 rfl rfl ?_
  exact r_ireturn dX15_look_115 rfl
theorem s_Tw_look_b116 (P W : Int) (G : St) : SS (MTw_look P W) some 116 [(0, aR 100)] [] G (Tw_look_b116 P W G) := by
  refine r_aload_n 117 0 dX15_look_116 rfl rfl rfl ?_
  refine r_get 120 (aI (G 100 65)) dX15_look_117 fkX15_618 (fun _ => dsT_100 P W _) nn100 rfl rfl ?_
  exact r_ireturn dX15_look_120 rfl
theorem s_Tw_look_b121 (P W : Int) (G : St) : SS (MTw_look P W) some 121 [(0, aR 100)] [] G (Tw_look_b121 P W G) := by
  refine r_aload_n 122 0 dX15_look_121 rfl rfl rfl ?_
  refine r_get 125 (aI (G 100 75)) dX15_look_122 fkX15_663 (fun _ => dsT_100 P W _) nn100 rfl rfl ?_
  exact r_ireturn dX15_look_125 rfl
theorem s_Tw_look_b126 (P W : Int) (G : St) : SS (MTw_look P W) some 126 [(0, aR 100)] [] G (Tw_look_b126 P W G) := by
  refine r_aload_n 127 0 dX15_look_126 rfl rfl rfl ?_
  refine r_get 130 (aI (G 100 69)) dX15_look_127 fkX15_672 (fun _ => dsT_100 P W _) nn100 rfl rfl ?_
  exact r_ireturn dX15_look_130 rfl
theorem s_Tw_look_b131 (P W : Int) (G : St) : SS (MTw_look P W) some 131 [(0, aR 100)] [] G (Tw_look_b131 P W G) := by
  refine r_aload_n 132 0 dX15_look_131 rfl rfl rfl ?_
  refine r_get 135 (aI (G 100 65)) dX15_look_132 fkX15_618 (fun _ => dsT_100 P W _) nn100 rfl rfl ?_
  refine r_aload_n 136 0 dX15_look_135 rfl rfl rfl ?_
  refine r_get 139 (aI P) dX15_look_136 fkX15_299 (fun _ => dsT_100 P W _) nn100 rfl rfl ?_
  refine r_iconst 140 1 dX15_look_139 rfl rfl ?_
  refine r_isub 141 dX15_look_140 rfl ?_
  refine r_imul 142 dX15_look_141 rfl ?_
  refine r_aload_n 143 0 dX15_look_142 rfl rfl rfl ?_
  refine r_get 146 (aI (G 100 67)) dX15_look_143 fkX15_630 (fun _ => dsT_100 P W _) nn100 rfl rfl ?_
  refine r_iconst 147 3 dX15_look_146 rfl rfl ?_
  refine r_aload_n 148 0 dX15_look_147 rfl rfl rfl ?_
  refine r_get 151 (aI P) dX15_look_148 fkX15_299 (fun _ => dsT_100 P W _) nn100 rfl rfl ?_
  refine r_imul 152 dX15_look_151 rfl ?_
  refine r_iconst 153 1 dX15_look_152 rfl rfl ?_
  refine r_isub 154 dX15_look_153 rfl ?_
  refine r_imul 155 dX15_look_154 rfl ?_
  refine r_iadd 156 dX15_look_155 rfl ?_
  exact r_ireturn dX15_look_156 rfl
theorem s_Tw_look_b157 (P W : Int) (G : St) : SS (MTw_look P W) some 157 [(0, aR 100)] [] G (Tw_look_b157 P W G) := by
  refine r_aload_n 158 0 dX15_look_157 rfl rfl rfl ?_
  refine r_get 161 (aI (G 100 70)) dX15_look_158 fkX15_659 (fun _ => dsT_100 P W _) nn100 rfl rfl ?_
  exact r_ireturn dX15_look_161 rfl
theorem s_Tw_look_b162 (P W : Int) (G : St) : SS (MTw_look P W) some 162 [(0, aR 100)] [] G (Tw_look_b162 P W G) := by
  refine r_aload_n 163 0 dX15_look_162 rfl rfl rfl ?_
  refine r_get 166 (aI (G 100 139)) dX15_look_163 fkX15_818 (fun _ => dsT_100 P W _) nn100 rfl rfl ?_
  exact r_ireturn dX15_look_166 rfl
theorem s_Tw_look_b167 (P W : Int) (G : St) : SS (MTw_look P W) some 167 [(0, aR 100)] [] G (Tw_look_b167 P W G) := by
  refine r_aload_n 168 0 dX15_look_167 rfl rfl rfl ?_
  refine r_get 171 (aI (G 100 140)) dX15_look_168 fkX15_830 (fun _ => dsT_100 P W _) nn100 rfl rfl ?_
  exact r_ireturn dX15_look_171 rfl
theorem s_Tw_look_b172 (P W : Int) (G : St) : SS (MTw_look P W) some 172 [(0, aR 100)] [] G (Tw_look_b172 P W G) := by
  refine r_aload_n 173 0 dX15_look_172 rfl rfl rfl ?_
  refine r_callvI 176 (Mc := MTw_done P W) (o := 100) (as := []) (st := []) dX15_look_173 rfl (c_Tw_done P W G) lkX15_854 (cmTw_done P W) rfl rfl rfl (fun _ => dsT_100 P W _) nn100 rfl (Nat.le_of_ble_eq_true rfl) (Nat.le_of_ble_eq_true rfl) (fun _ => rfl) rfl (fun z1 G2 => ?_)
  exact r_ireturn dX15_look_176 rfl
theorem s_Tw_look_b177 (P W : Int) (G : St) : SS (MTw_look P W) some 177 [(0, aR 100)] [] G (Tw_look_b177 P W G) := by
  refine r_aload_n 178 0 dX15_look_177 rfl rfl rfl ?_
  refine r_get 181 (aI (G 100 83)) dX15_look_178 fkX15_848 (fun _ => dsT_100 P W _) nn100 rfl rfl ?_
  refine SS.phi (fun VV_ => some (VV_, G)) ?_
  refine r_if_ne 188 184 dX15_look_181 rfl rfl ?_ ?_
  · refine r_aload_n 189 0 dX15_look_188 rfl rfl rfl ?_
    refine r_get 192 (aI (G 100 124)) dX15_look_189 fkX15_762 (fun _ => dsT_100 P W _) nn100 rfl rfl ?_
    refine SS.phi (fun VV_ => some (VV_, G)) ?_
    refine r_if_eq 199 195 dX15_look_192 rfl rfl ?_ ?_
    · refine r_iconst 200 1 dX15_look_199 rfl rfl ?_
      exact r_ireturn dX15_look_200 rfl
    · refine r_iconst 196 2 dX15_look_195 rfl rfl ?_
      refine r_goto 200 dX15_look_196 rfl ?_
      exact r_ireturn dX15_look_200 rfl
  · refine r_iconst 185 0 dX15_look_184 rfl rfl ?_
    refine r_goto 200 dX15_look_185 rfl ?_
    exact r_ireturn dX15_look_200 rfl
theorem s_Tw_look_b201 (P W : Int) (G : St) : SS (MTw_look P W) some 201 [(0, aR 100)] [] G (Tw_look_b201 P W G) := by
  refine r_aload_n 202 0 dX15_look_201 rfl rfl rfl ?_
  refine r_get 205 (aI (G 100 121)) dX15_look_202 fkX15_797 (fun _ => dsT_100 P W _) nn100 rfl rfl ?_
  exact r_ireturn dX15_look_205 rfl
theorem s_Tw_look_b206 (P W : Int) (G : St) : SS (MTw_look P W) some 206 [(0, aR 100)] [] G (Tw_look_b206 P W G) := by
  refine r_aload_n 207 0 dX15_look_206 rfl rfl rfl ?_
  refine r_get 210 (aI (G 100 120)) dX15_look_207 fkX15_310 (fun _ => dsT_100 P W _) nn100 rfl rfl ?_
  exact r_ireturn dX15_look_210 rfl
theorem s_Tw_look_b19 (P W : Int) (x1 : Int) (G : St) : SS (MTw_look P W) some 19 [(0, aR 100), (1, aI x1)] [] G (Tw_look_b19 P W x1 G) := by
  refine r_iload_n 20 1 dX15_look_19 rfl rfl rfl ?_
  refine r_tsw 211 [(96, Tw_look_b96 P W G), (101, Tw_look_b101 P W G), (106, Tw_look_b106 P W G), (111, Tw_look_b111 P W G), (116, Tw_look_b116 P W G), (121, Tw_look_b121 P W G), (126, Tw_look_b126 P W G), (131, Tw_look_b131 P W G), (157, Tw_look_b157 P W G), (162, Tw_look_b162 P W G), (167, Tw_look_b167 P W G), (172, Tw_look_b172 P W G), (177, Tw_look_b177 P W G), (201, Tw_look_b201 P W G), (206, Tw_look_b206 P W G)] dX15_look_20 rfl rfl rfl ⟨?_, ?_, ?_, ?_, ?_, ?_, ?_, ?_, ?_, ?_, ?_, ?_, ?_, ?_, ?_, trivial⟩ ?_
  · refine r_to [0] [(0, aR 100)] rfl ?_
    exact s_Tw_look_b96 P W G
  · refine r_to [0] [(0, aR 100)] rfl ?_
    exact s_Tw_look_b101 P W G
  · refine r_to [0] [(0, aR 100)] rfl ?_
    exact s_Tw_look_b106 P W G
  · refine r_to [0] [(0, aR 100)] rfl ?_
    exact s_Tw_look_b111 P W G
  · refine r_to [0] [(0, aR 100)] rfl ?_
    exact s_Tw_look_b116 P W G
  · refine r_to [0] [(0, aR 100)] rfl ?_
    exact s_Tw_look_b121 P W G
  · refine r_to [0] [(0, aR 100)] rfl ?_
    exact s_Tw_look_b126 P W G
  · refine r_to [0] [(0, aR 100)] rfl ?_
    exact s_Tw_look_b131 P W G
  · refine r_to [0] [(0, aR 100)] rfl ?_
    exact s_Tw_look_b157 P W G
  · refine r_to [0] [(0, aR 100)] rfl ?_
    exact s_Tw_look_b162 P W G
  · refine r_to [0] [(0, aR 100)] rfl ?_
    exact s_Tw_look_b167 P W G
  · refine r_to [0] [(0, aR 100)] rfl ?_
    exact s_Tw_look_b172 P W G
  · refine r_to [0] [(0, aR 100)] rfl ?_
    exact s_Tw_look_b177 P W G
  · refine r_to [0] [(0, aR 100)] rfl ?_
    exact s_Tw_look_b201 P W G
  · refine r_to [0] [(0, aR 100)] rfl ?_
    exact s_Tw_look_b206 P W G
  · refine r_iconst 212 (-1) dX15_look_211 rfl rfl ?_
    exact r_ireturn dX15_look_212 rfl
theorem s_Tw_look (P W : Int) (x1 : Int) (G : St) : SS (MTw_look P W) some 0 [(0, aR 100), (1, aI x1)] [] G (Tw_look P W x1 G) := by
  refine r_iload_n 1 1 dX15_look_0 rfl rfl rfl ?_
  refine r_if_le 19 4 dX15_look_1 rfl rfl ?_ ?_
  · exact s_Tw_look_b19 P W x1 G
  · refine r_iload_n 5 1 dX15_look_4 rfl rfl rfl ?_
    refine r_bipush 7 9 dX15_look_5 rfl rfl ?_
    refine r_icmp_ge 19 10 dX15_look_7 rfl rfl ?_ ?_
    · exact s_Tw_look_b19 P W x1 G
    · refine r_aload_n 11 0 dX15_look_10 rfl rfl rfl ?_
      refine r_get 14 (aI (G 100 83)) dX15_look_11 fkX15_848 (fun _ => dsT_100 P W _) nn100 rfl rfl ?_
      refine r_if_ne 19 17 dX15_look_14 rfl rfl ?_ ?_
      · exact s_Tw_look_b19 P W x1 G
      · refine r_iconst 18 (-1) dX15_look_17 rfl rfl ?_
        exact r_ireturn dX15_look_18 rfl
theorem c_Tw_look (P W : Int) (x1 : Int) (G : St) : MG (MTw_look P W) [aR 100, aI x1] G (Tw_look P W x1 G) := MG.of plX15 (Nat.le_of_ble_eq_true rfl) (s_Tw_look P W x1 G)
theorem s_Tw_gate (P W : Int) (x1 : Int) (x2 : Int) (G : St) : SS (MTw_gate P W) some 0 [(0, aR 100), (1, aI x1), (2, aI x2)] [] G (Tw_gate x1 x2 G) := by
  refine r_aload_n 1 0 dX15_gate_0 rfl rfl rfl ?_
  refine r_get 4 (aI (G 100 83)) dX15_gate_1 fkX15_848 (fun _ => dsT_100 P W _) nn100 rfl rfl ?_
  refine r_if_eq 28 7 dX15_gate_4 rfl rfl ?_ ?_
  · refine r_iconst 29 (-1) dX15_gate_28 rfl rfl ?_
    exact r_ireturn dX15_gate_29 rfl
  · refine r_iload_n 8 1 dX15_gate_7 rfl rfl rfl ?_
    refine r_if_lt 28 11 dX15_gate_8 rfl rfl ?_ ?_
    · refine r_iconst 29 (-1) dX15_gate_28 rfl rfl ?_
      exact r_ireturn dX15_gate_29 rfl
    · refine r_iload_n 12 1 dX15_gate_11 rfl rfl rfl ?_
      refine r_aload_n 13 0 dX15_gate_12 rfl rfl rfl ?_
      refine r_get 16 (aI (G 100 66)) dX15_gate_13 fkX15_624 (fun _ => dsT_100 P W _) nn100 rfl rfl ?_
      refine r_icmp_ge 28 19 dX15_gate_16 rfl rfl ?_ ?_
      · refine r_iconst 29 (-1) dX15_gate_28 rfl rfl ?_
        exact r_ireturn dX15_gate_29 rfl
      · refine r_iload_n 20 2 dX15_gate_19 rfl rfl rfl ?_
        refine r_if_lt 28 23 dX15_gate_20 rfl rfl ?_ ?_
        · refine r_iconst 29 (-1) dX15_gate_28 rfl rfl ?_
          exact r_ireturn dX15_gate_29 rfl
        · refine r_iload_n 24 2 dX15_gate_23 rfl rfl rfl ?_
          refine r_iconst 25 3 dX15_gate_24 rfl rfl ?_
          refine r_icmp_le 30 28 dX15_gate_25 rfl rfl ?_ ?_
          · refine r_iload_n 31 2 dX15_gate_30 rfl rfl rfl ?_
            refine r_if_ne 43 34 dX15_gate_31 rfl rfl ?_ ?_
            · refine r_iload_n 44 2 dX15_gate_43 rfl rfl rfl ?_
              refine r_iconst 45 1 dX15_gate_44 rfl rfl ?_
              refine r_icmp_ne 57 48 dX15_gate_45 rfl rfl ?_ ?_
              · refine r_iload_n 58 2 dX15_gate_57 rfl rfl rfl ?_
                refine r_iconst 59 2 dX15_gate_58 rfl rfl ?_
                refine r_icmp_ne 71 62 dX15_gate_59 rfl rfl ?_ ?_
                · refine r_aload_n 72 0 dX15_gate_71 rfl rfl rfl ?_
                  refine r_get 75 (aR 175) dX15_gate_72 fkX15_133 (fun _ => dsT_100 P W _) nn100 rfl rfl ?_
                  refine r_iload_n 76 1 dX15_gate_75 rfl rfl rfl ?_
                  refine r_iald 77 dX15_gate_76 (fun _ _ _ => dsT_175 P W _) (fun _ _ => nn175) rfl ?_
                  exact r_ireturn dX15_gate_77 rfl
                · refine r_aload_n 63 0 dX15_gate_62 rfl rfl rfl ?_
                  refine r_get 66 (aR 174) dX15_gate_63 fkX15_130 (fun _ => dsT_100 P W _) nn100 rfl rfl ?_
                  refine r_iload_n 67 1 dX15_gate_66 rfl rfl rfl ?_
                  refine r_iald 68 dX15_gate_67 (fun _ _ _ => dsT_174 P W _) (fun _ _ => nn174) rfl ?_
                  refine r_goto 77 dX15_gate_68 rfl ?_
                  exact r_ireturn dX15_gate_77 rfl
              · refine r_aload_n 49 0 dX15_gate_48 rfl rfl rfl ?_
                refine r_get 52 (aR 173) dX15_gate_49 fkX15_127 (fun _ => dsT_100 P W _) nn100 rfl rfl ?_
                refine r_iload_n 53 1 dX15_gate_52 rfl rfl rfl ?_
                refine r_iald 54 dX15_gate_53 (fun _ _ _ => dsT_173 P W _) (fun _ _ => nn173) rfl ?_
                refine r_goto 77 dX15_gate_54 rfl ?_
                exact r_ireturn dX15_gate_77 rfl
            · refine r_aload_n 35 0 dX15_gate_34 rfl rfl rfl ?_
              refine r_get 38 (aR 172) dX15_gate_35 fkX15_124 (fun _ => dsT_100 P W _) nn100 rfl rfl ?_
              refine r_iload_n 39 1 dX15_gate_38 rfl rfl rfl ?_
              refine r_iald 40 dX15_gate_39 (fun _ _ _ => dsT_172 P W _) (fun _ _ => nn172) rfl ?_
              refine r_goto 77 dX15_gate_40 rfl ?_
              exact r_ireturn dX15_gate_77 rfl
          · refine r_iconst 29 (-1) dX15_gate_28 rfl rfl ?_
            exact r_ireturn dX15_gate_29 rfl
theorem c_Tw_gate (P W : Int) (x1 : Int) (x2 : Int) (G : St) : MG (MTw_gate P W) [aR 100, aI x1, aI x2] G (Tw_gate x1 x2 G) := MG.of plX15 (Nat.le_of_ble_eq_true rfl) (s_Tw_gate P W x1 x2 G)
theorem s_Tw_literal_b44 (P W : Int) (x1 : Int) (x2 : Int) (s0 : Int) (s2 : Int) (G : St) : SS (MTw_literal P W) some 44 [(0, aR 100), (1, aI x1), (2, aI x2)] [aI s0, aR 182, aI s2] G (Tw_literal_b44 x1 x2 s0 s2 G) := by
  refine r_iald 45 dX15_literal_44 (fun _ _ _ => dsT_182 P W _) (fun _ _ => nn182) rfl ?_
  refine r_icmp_lt 53 48 dX15_literal_45 rfl rfl ?_ ?_
  · refine r_aload_n 54 0 dX15_literal_53 rfl rfl rfl ?_
    refine r_get 57 (aR 183) dX15_literal_54 fkX15_154 (fun _ => dsT_100 P W _) nn100 rfl rfl ?_
    refine r_bipush 59 32 dX15_literal_57 rfl rfl ?_
    refine r_iload_n 60 1 dX15_literal_59 rfl rfl rfl ?_
    refine r_imul 61 dX15_literal_60 rfl ?_
    refine r_iload_n 62 2 dX15_literal_61 rfl rfl rfl ?_
    refine r_iadd 63 dX15_literal_62 rfl ?_
    refine r_iald 64 dX15_literal_63 (fun _ _ _ => dsT_183 P W _) (fun _ _ => nn183) rfl ?_
    exact r_ireturn dX15_literal_64 rfl
  · refine r_bipush 50 (-3) dX15_literal_48 rfl rfl ?_
    refine r_goto 64 dX15_literal_50 rfl ?_
    exact r_ireturn dX15_literal_64 rfl
theorem s_Tw_literal (P W : Int) (x1 : Int) (x2 : Int) (G : St) : SS (MTw_literal P W) some 0 [(0, aR 100), (1, aI x1), (2, aI x2)] [] G (Tw_literal x1 x2 G) := by
  refine r_aload_n 1 0 dX15_literal_0 rfl rfl rfl ?_
  refine r_get 4 (aI (G 100 83)) dX15_literal_1 fkX15_848 (fun _ => dsT_100 P W _) nn100 rfl rfl ?_
  refine r_if_eq 48 7 dX15_literal_4 rfl rfl ?_ ?_
  · refine r_bipush 50 (-3) dX15_literal_48 rfl rfl ?_
    refine r_goto 64 dX15_literal_50 rfl ?_
    exact r_ireturn dX15_literal_64 rfl
  · refine r_iload_n 8 1 dX15_literal_7 rfl rfl rfl ?_
    refine r_if_lt 48 11 dX15_literal_8 rfl rfl ?_ ?_
    · refine r_bipush 50 (-3) dX15_literal_48 rfl rfl ?_
      refine r_goto 64 dX15_literal_50 rfl ?_
      exact r_ireturn dX15_literal_64 rfl
    · refine r_iload_n 12 1 dX15_literal_11 rfl rfl rfl ?_
      refine r_aload_n 13 0 dX15_literal_12 rfl rfl rfl ?_
      refine r_get 16 (aI (G 100 69)) dX15_literal_13 fkX15_672 (fun _ => dsT_100 P W _) nn100 rfl rfl ?_
      refine r_icmp_ge 48 19 dX15_literal_16 rfl rfl ?_ ?_
      · refine r_bipush 50 (-3) dX15_literal_48 rfl rfl ?_
        refine r_goto 64 dX15_literal_50 rfl ?_
        exact r_ireturn dX15_literal_64 rfl
      · refine r_iload_n 20 2 dX15_literal_19 rfl rfl rfl ?_
        refine r_if_lt 48 23 dX15_literal_20 rfl rfl ?_ ?_
        · refine r_bipush 50 (-3) dX15_literal_48 rfl rfl ?_
          refine r_goto 64 dX15_literal_50 rfl ?_
          exact r_ireturn dX15_literal_64 rfl
        · refine r_iload_n 24 2 dX15_literal_23 rfl rfl rfl ?_
          refine r_aload_n 25 0 dX15_literal_24 rfl rfl rfl ?_
          refine r_get 28 (aR 182) dX15_literal_25 fkX15_151 (fun _ => dsT_100 P W _) nn100 rfl rfl ?_
          refine r_iload_n 29 1 dX15_literal_28 rfl rfl rfl ?_
          refine SS.phi (fun VV_ => Tw_literal_b44 x1 x2 VV_ x2 G) ?_
          refine r_if_lt 43 32 dX15_literal_29 rfl rfl ?_ ?_
          · refine r_iconst 44 0 dX15_literal_43 rfl rfl ?_
            exact s_Tw_literal_b44 P W x1 x2 0 x2 G
          · refine r_iload_n 33 1 dX15_literal_32 rfl rfl rfl ?_
            refine r_sipush 36 500 dX15_literal_33 rfl rfl ?_
            refine SS.phi (fun VV_ => Tw_literal_b44 x1 x2 VV_ x2 G) ?_
            refine r_icmp_ge 43 39 dX15_literal_36 rfl rfl ?_ ?_
            · refine r_iconst 44 0 dX15_literal_43 rfl rfl ?_
              exact s_Tw_literal_b44 P W x1 x2 0 x2 G
            · refine r_iload_n 40 1 dX15_literal_39 rfl rfl rfl ?_
              refine r_goto 44 dX15_literal_40 rfl ?_
              exact s_Tw_literal_b44 P W x1 x2 x1 x2 G
theorem c_Tw_literal (P W : Int) (x1 : Int) (x2 : Int) (G : St) : MG (MTw_literal P W) [aR 100, aI x1, aI x2] G (Tw_literal x1 x2 G) := MG.of plX15 (Nat.le_of_ble_eq_true rfl) (s_Tw_literal P W x1 x2 G)
theorem s_Tw_input_b28 (P W : Int) (G : St) : SS (MTw_input P W) some 28 [] [] G (Tw_input_b28 G) := by
  refine r_ldc2 31 (-1) dX15_input_28 q2715 (by decide) rfl rfl ?_
  exact r_lreturn dX15_input_31 rfl
theorem s_Tw_input (P W : Int) (x1 : Int) (x2 : Int) (G : St) : SS (MTw_input P W) some 0 [(0, aR 100), (1, aI x1), (2, aI x2)] [] G (Tw_input x1 x2 G) := by
  refine r_aload_n 1 0 dX15_input_0 rfl rfl rfl ?_
  refine r_get 4 (aI (G 100 83)) dX15_input_1 fkX15_848 (fun _ => dsT_100 P W _) nn100 rfl rfl ?_
  refine r_if_eq 28 7 dX15_input_4 rfl rfl ?_ ?_
  · refine r_to [] [] rfl ?_
    exact s_Tw_input_b28 P W G
  · refine r_iload_n 8 1 dX15_input_7 rfl rfl rfl ?_
    refine r_if_lt 28 11 dX15_input_8 rfl rfl ?_ ?_
    · refine r_to [] [] rfl ?_
      exact s_Tw_input_b28 P W G
    · refine r_iload_n 12 1 dX15_input_11 rfl rfl rfl ?_
      refine r_aload_n 13 0 dX15_input_12 rfl rfl rfl ?_
      refine r_get 16 (aI (G 100 75)) dX15_input_13 fkX15_663 (fun _ => dsT_100 P W _) nn100 rfl rfl ?_
      refine r_icmp_ge 28 19 dX15_input_16 rfl rfl ?_ ?_
      · refine r_to [] [] rfl ?_
        exact s_Tw_input_b28 P W G
      · refine r_iload_n 20 2 dX15_input_19 rfl rfl rfl ?_
        refine r_if_lt 28 23 dX15_input_20 rfl rfl ?_ ?_
        · refine r_to [] [] rfl ?_
          exact s_Tw_input_b28 P W G
        · refine r_iload_n 24 2 dX15_input_23 rfl rfl rfl ?_
          refine r_iconst 25 2 dX15_input_24 rfl rfl ?_
          refine r_icmp_le 32 28 dX15_input_25 rfl rfl ?_ ?_
          · refine r_iload_n 33 2 dX15_input_32 rfl rfl rfl ?_
            refine r_if_ne 46 36 dX15_input_33 rfl rfl ?_ ?_
            · refine r_iload_n 47 2 dX15_input_46 rfl rfl rfl ?_
              refine r_iconst 48 1 dX15_input_47 rfl rfl ?_
              refine r_icmp_ne 61 51 dX15_input_48 rfl rfl ?_ ?_
              · refine r_aload_n 62 0 dX15_input_61 rfl rfl rfl ?_
                refine r_get 65 (aR 180) dX15_input_62 fkX15_145 (fun _ => dsT_100 P W _) nn100 rfl rfl ?_
                refine r_iload_n 66 1 dX15_input_65 rfl rfl rfl ?_
                refine r_lald 67 dX15_input_66 (fun _ _ _ => dsT_180 P W _) (fun _ _ => nn180) rfl ?_
                exact r_lreturn dX15_input_67 rfl
              · refine r_aload_n 52 0 dX15_input_51 rfl rfl rfl ?_
                refine r_get 55 (aR 178) dX15_input_52 fkX15_139 (fun _ => dsT_100 P W _) nn100 rfl rfl ?_
                refine r_iload_n 56 1 dX15_input_55 rfl rfl rfl ?_
                refine r_iald 57 dX15_input_56 (fun _ _ _ => dsT_178 P W _) (fun _ _ => nn178) rfl ?_
                refine r_i2l 58 dX15_input_57 rfl ?_
                refine r_goto 67 dX15_input_58 rfl ?_
                exact r_lreturn dX15_input_67 rfl
            · refine r_aload_n 37 0 dX15_input_36 rfl rfl rfl ?_
              refine r_get 40 (aR 177) dX15_input_37 fkX15_136 (fun _ => dsT_100 P W _) nn100 rfl rfl ?_
              refine r_iload_n 41 1 dX15_input_40 rfl rfl rfl ?_
              refine r_iald 42 dX15_input_41 (fun _ _ _ => dsT_177 P W _) (fun _ _ => nn177) rfl ?_
              refine r_i2l 43 dX15_input_42 rfl ?_
              refine r_goto 67 dX15_input_43 rfl ?_
              exact r_lreturn dX15_input_67 rfl
          · refine r_to [] [] rfl ?_
            exact s_Tw_input_b28 P W G
theorem c_Tw_input (P W : Int) (x1 : Int) (x2 : Int) (G : St) : MG (MTw_input P W) [aR 100, aI x1, aI x2] G (Tw_input x1 x2 G) := MG.of plX15 (Nat.le_of_ble_eq_true rfl) (s_Tw_input P W x1 x2 G)
theorem s_Tw_give_b60 (P W : Int) (s0 : Int) (G : St) : SS (MTw_give P W) some 60 [] [aI s0, aR 100] G (Tw_give_b60 s0 G) := by
  refine r_putZ 63 dX15_give_60 fkX15_777 (fun _ => dsT_100 P W _) nn100 rfl rfl ?_
  refine ss_tk (fun G2 => ?_)
  refine r_iconst 64 1 dX15_give_63 rfl rfl ?_
  exact r_zreturn dX15_give_64 rfl
theorem s_Tw_give (P W : Int) (x1 : Int) (x2 : Int) (G : St) : SS (MTw_give P W) some 0 [(0, aR 100), (1, aI x1), (2, aI x2)] [] G (Tw_give x1 x2 G) := by
  refine r_aload_n 1 0 dX15_give_0 rfl rfl rfl ?_
  refine r_get 4 (aI (G 100 83)) dX15_give_1 fkX15_848 (fun _ => dsT_100 P W _) nn100 rfl rfl ?_
  refine r_if_eq 19 7 dX15_give_4 rfl rfl ?_ ?_
  · refine r_iconst 20 0 dX15_give_19 rfl rfl ?_
    exact r_zreturn dX15_give_20 rfl
  · refine r_iload_n 8 1 dX15_give_7 rfl rfl rfl ?_
    refine r_if_lt 19 11 dX15_give_8 rfl rfl ?_ ?_
    · refine r_iconst 20 0 dX15_give_19 rfl rfl ?_
      exact r_zreturn dX15_give_20 rfl
    · refine r_iload_n 12 1 dX15_give_11 rfl rfl rfl ?_
      refine r_aload_n 13 0 dX15_give_12 rfl rfl rfl ?_
      refine r_get 16 (aI (G 100 75)) dX15_give_13 fkX15_663 (fun _ => dsT_100 P W _) nn100 rfl rfl ?_
      refine r_icmp_lt 21 19 dX15_give_16 rfl rfl ?_ ?_
      · refine r_aload_n 22 0 dX15_give_21 rfl rfl rfl ?_
        refine r_get 25 (aR 180) dX15_give_22 fkX15_145 (fun _ => dsT_100 P W _) nn100 rfl rfl ?_
        refine r_iload_n 26 1 dX15_give_25 rfl rfl rfl ?_
        refine r_iload_n 27 2 dX15_give_26 rfl rfl rfl ?_
        refine r_i2l 28 dX15_give_27 rfl ?_
        refine r_lconst 29 1 dX15_give_28 rfl rfl rfl ?_
        refine r_aload_n 30 0 dX15_give_29 rfl rfl rfl ?_
        refine r_get 33 (aR 178) dX15_give_30 fkX15_139 (fun _ => dsT_100 P W _) nn100 rfl rfl ?_
        refine r_iload_n 34 1 dX15_give_33 rfl rfl rfl ?_
        refine r_iald 35 dX15_give_34 (fun _ _ _ => dsT_178 P W _) (fun _ _ => nn178) rfl ?_
        refine r_lshl 36 dX15_give_35 rfl ?_
        refine r_lconst 37 1 dX15_give_36 rfl rfl rfl ?_
        refine r_lsub 38 dX15_give_37 rfl ?_
        refine r_land 39 dX15_give_38 rfl ?_
        refine r_last 40 dX15_give_39 (fun _ _ _ => dsT_180 P W _) (fun _ _ => nn180) rfl ?_
        refine ss_tk (fun G1 => ?_)
        refine r_aload_n 41 0 dX15_give_40 rfl rfl rfl ?_
        refine r_aload_n 42 0 dX15_give_41 rfl rfl rfl ?_
        refine r_get 45 (aI (G1 100 119)) dX15_give_42 fkX15_777 (fun _ => dsT_100 P W _) nn100 rfl rfl ?_
        refine SS.phi (fun VV_ => Tw_give_b60 VV_ G1) ?_
        refine r_if_eq 59 48 dX15_give_45 rfl rfl ?_ ?_
        · refine r_iconst 60 0 dX15_give_59 rfl rfl ?_
          refine r_to [] [] rfl ?_
          exact s_Tw_give_b60 P W 0 G1
        · refine r_aload_n 49 0 dX15_give_48 rfl rfl rfl ?_
          refine r_get 52 (aI (G1 100 124)) dX15_give_49 fkX15_762 (fun _ => dsT_100 P W _) nn100 rfl rfl ?_
          refine SS.phi (fun VV_ => Tw_give_b60 VV_ G1) ?_
          refine r_if_eq 59 55 dX15_give_52 rfl rfl ?_ ?_
          · refine r_iconst 60 0 dX15_give_59 rfl rfl ?_
            refine r_to [] [] rfl ?_
            exact s_Tw_give_b60 P W 0 G1
          · refine r_iconst 56 1 dX15_give_55 rfl rfl ?_
            refine r_goto 60 dX15_give_56 rfl ?_
            refine r_to [] [] rfl ?_
            exact s_Tw_give_b60 P W 1 G1
      · refine r_iconst 20 0 dX15_give_19 rfl rfl ?_
        exact r_zreturn dX15_give_20 rfl
theorem c_Tw_give (P W : Int) (x1 : Int) (x2 : Int) (G : St) : MG (MTw_give P W) [aR 100, aI x1, aI x2] G (Tw_give x1 x2 G) := MG.of plX15 (Nat.le_of_ble_eq_true rfl) (s_Tw_give P W x1 x2 G)
theorem s_Tw_seed (P W : Int) (x1 : Int) (G : St) : SS (MTw_seed P W) some 0 [(0, aR 100), (1, aI x1)] [] G (Tw_seed x1 G) := by
  refine r_aload_n 1 0 dX15_seed_0 rfl rfl rfl ?_
  refine r_iload_n 2 1 dX15_seed_1 rfl rfl rfl ?_
  refine r_putI 5 dX15_seed_2 fkX15_310 (fun _ => dsT_100 P W _) nn100 rfl rfl ?_
  refine ss_tk (fun G1 => ?_)
  exact r_return dX15_seed_5 rfl
theorem c_Tw_seed (P W : Int) (x1 : Int) (G : St) : MG (MTw_seed P W) [aR 100, aI x1] G (Tw_seed x1 G) := MG.of plX15 (Nat.le_of_ble_eq_true rfl) (s_Tw_seed P W x1 G)
theorem s_Tw_draws_s27 (P W : Int) (x1 : Int) (x3 : Int) (X27 : Int × St → Option (Int × St)) (hX27 : ∀ s, So (MTw_draws P W) 27 [(0, aR 100), (1, aL x1), (3, aI x3), (4, aI (s.1))] [] s.2 (X27 s)) (x4 : Int) (G : St) : SS (MTw_draws P W) (lk X27 some) 27 [(0, aR 100), (1, aL x1), (3, aI x3), (4, aI x4)] [] G (Tw_draws_s27 x1 x3 x4 G) := by
  refine r_iload 29 3 dX15_draws_27 rfl rfl ?_
  refine r_iload_n 30 2 dX15_draws_29 rfl rfl rfl ?_
  refine r_icmp_ge 74 33 dX15_draws_30 rfl rfl ?_ ?_
  · refine SS.ex ?_
    refine r_aload_n 75 0 dX15_draws_74 rfl rfl rfl ?_
    refine r_get 78 (aI (G 100 121)) dX15_draws_75 fkX15_797 (fun _ => dsT_100 P W _) nn100 rfl rfl ?_
    exact r_ireturn dX15_draws_78 rfl
  · refine r_aload_n 34 0 dX15_draws_33 rfl rfl rfl ?_
    refine r_get 37 (aR 224) dX15_draws_34 fkX15_243 (fun _ => dsT_100 P W _) nn100 rfl rfl ?_
    refine r_aload_n 38 0 dX15_draws_37 rfl rfl rfl ?_
    refine r_get 41 (aI (G 100 122)) dX15_draws_38 fkX15_800 (fun _ => dsT_100 P W _) nn100 rfl rfl ?_
    refine r_aload_n 42 0 dX15_draws_41 rfl rfl rfl ?_
    refine r_get 45 (aI (G 100 121)) dX15_draws_42 fkX15_797 (fun _ => dsT_100 P W _) nn100 rfl rfl ?_
    refine r_iadd 46 dX15_draws_45 rfl ?_
    refine r_sipush 49 2000 dX15_draws_46 rfl rfl ?_
    refine r_irem 50 dX15_draws_49 rfl ?_
    refine r_lload_n 51 1 dX15_draws_50 rfl rfl rfl ?_
    refine r_iload 53 3 dX15_draws_51 rfl rfl ?_
    refine r_lushr 54 dX15_draws_53 rfl ?_
    refine r_lconst 55 1 dX15_draws_54 rfl rfl rfl ?_
    refine r_land 56 dX15_draws_55 rfl ?_
    refine r_l2iw 57 dX15_draws_56 rfl ?_
    refine r_iast 58 dX15_draws_57 (fun _ _ _ => dsT_224 P W _) (fun _ _ => nn224) rfl ?_
    refine ss_tk (fun G1 => ?_)
    refine r_aload_n 59 0 dX15_draws_58 rfl rfl rfl ?_
    refine r_dup 60 dX15_draws_59 rfl rfl ?_
    refine r_get 63 (aI (G1 100 121)) dX15_draws_60 fkX15_797 (fun _ => dsT_100 P W _) nn100 rfl rfl ?_
    refine r_iconst 64 1 dX15_draws_63 rfl rfl ?_
    refine r_iadd 65 dX15_draws_64 rfl ?_
    refine r_putI 68 dX15_draws_65 fkX15_797 (fun _ => dsT_100 P W _) nn100 rfl rfl ?_
    refine ss_tk (fun G2 => ?_)
    refine r_iinc 71 [(4, aI (x4 + 1)), (0, aR 100), (1, aL x1), (3, aI x3)] 3 dX15_draws_68 rfl rfl rfl rfl ?_
    refine r_goto 27 dX15_draws_71 rfl ?_
    refine r_to [1, 2, 3, 0] [(0, aR 100), (1, aL x1), (3, aI x3), (4, aI (x4 + 1))] rfl ?_
    exact SS.back (hX27 (x4 + 1, G2))
theorem sl_Tw_draws_27 (P W : Int) (x1 : Int) (x3 : Int) (x4 : Int) (G : St) : SS (MTw_draws P W) some 27 [(0, aR 100), (1, aL x1), (3, aI x3), (4, aI x4)] [] G (Tw_draws_l27 x1 x3 x4 G) := by
  exact SS.loop (σ := Int × St) (fun s => [(0, aR 100), (1, aL x1), (3, aI x3), (4, aI (s.1))]) (fun s => s.2) (fun s => Tw_draws_s27 x1 x3 s.1 s.2) (fun X27 hX27 s => s_Tw_draws_s27 P W x1 x3  X27 hX27 s.1 s.2) (x4, G)
theorem s_Tw_draws (P W : Int) (x1 : Int) (x3 : Int) (G : St) : SS (MTw_draws P W) some 0 [(0, aR 100), (1, aL x1), (3, aI x3)] [] G (Tw_draws x1 x3 G) := by
  refine r_iload_n 1 2 dX15_draws_0 rfl rfl rfl ?_
  refine r_if_lt 22 4 dX15_draws_1 rfl rfl ?_ ?_
  · refine r_iconst 23 (-1) dX15_draws_22 rfl rfl ?_
    exact r_ireturn dX15_draws_23 rfl
  · refine r_iload_n 5 2 dX15_draws_4 rfl rfl rfl ?_
    refine r_bipush 7 64 dX15_draws_5 rfl rfl ?_
    refine r_icmp_gt 22 10 dX15_draws_7 rfl rfl ?_ ?_
    · refine r_iconst 23 (-1) dX15_draws_22 rfl rfl ?_
      exact r_ireturn dX15_draws_23 rfl
    · refine r_aload_n 11 0 dX15_draws_10 rfl rfl rfl ?_
      refine r_get 14 (aI (G 100 121)) dX15_draws_11 fkX15_797 (fun _ => dsT_100 P W _) nn100 rfl rfl ?_
      refine r_iload_n 15 2 dX15_draws_14 rfl rfl rfl ?_
      refine r_iadd 16 dX15_draws_15 rfl ?_
      refine r_sipush 19 2000 dX15_draws_16 rfl rfl ?_
      refine r_icmp_le 24 22 dX15_draws_19 rfl rfl ?_ ?_
      · refine r_iconst 25 0 dX15_draws_24 rfl rfl ?_
        refine r_istore 27 [(4, aI 0), (0, aR 100), (1, aL x1), (3, aI x3)] dX15_draws_25 rfl rfl rfl ?_
        refine r_to [1, 2, 3, 0] [(0, aR 100), (1, aL x1), (3, aI x3), (4, aI 0)] rfl ?_
        exact sl_Tw_draws_27 P W x1 x3 0 G
      · refine r_iconst 23 (-1) dX15_draws_22 rfl rfl ?_
        exact r_ireturn dX15_draws_23 rfl
theorem c_Tw_draws (P W : Int) (x1 : Int) (x3 : Int) (G : St) : MG (MTw_draws P W) [aR 100, aL x1, aI x3] G (Tw_draws x1 x3 G) := MG.of plX15 (Nat.le_of_ble_eq_true rfl) (s_Tw_draws P W x1 x3 G)
theorem s_Tw_sendRound_b70 (P W : Int) (x1 : Int) (X2 : Int × St → Option (Int × St)) (hX2 : ∀ s, So (MTw_sendRound P W) 2 [(0, aR 100), (1, aI x1), (2, aI (s.1))] [] s.2 (X2 s)) (x2 : Int) (G : St) : SS (MTw_sendRound P W) (lk X2 some) 70 [(0, aR 100), (1, aI x1), (2, aI x2)] [] G (Tw_sendRound_b70 P W x1 x2 G) := by
  refine r_iinc 73 [(2, aI (x2 + 1)), (0, aR 100), (1, aI x1)] 2 dX15_sendRound_70 rfl rfl rfl rfl ?_
  refine r_goto 2 dX15_sendRound_73 rfl ?_
  refine r_to [1, 2, 0] [(0, aR 100), (1, aI x1), (2, aI (x2 + 1))] rfl ?_
  exact SS.back (hX2 (x2 + 1, G))
theorem s_Tw_sendRound_s2 (P W : Int) (x1 : Int) (X2 : Int × St → Option (Int × St)) (hX2 : ∀ s, So (MTw_sendRound P W) 2 [(0, aR 100), (1, aI x1), (2, aI (s.1))] [] s.2 (X2 s)) (x2 : Int) (G : St) : SS (MTw_sendRound P W) (lk X2 some) 2 [(0, aR 100), (1, aI x1), (2, aI x2)] [] G (Tw_sendRound_s2 P W x1 x2 G) := by
  refine r_iload_n 3 2 dX15_sendRound_2 rfl rfl rfl ?_
  refine r_aload_n 4 0 dX15_sendRound_3 rfl rfl rfl ?_
  refine r_get 7 (aI P) dX15_sendRound_4 fkX15_299 (fun _ => dsT_100 P W _) nn100 rfl rfl ?_
  refine r_icmp_ge 76 10 dX15_sendRound_7 rfl rfl ?_ ?_
  · refine SS.ex ?_
    exact r_return dX15_sendRound_76 rfl
  · refine r_iload_n 11 2 dX15_sendRound_10 rfl rfl rfl ?_
    refine r_iload_n 12 1 dX15_sendRound_11 rfl rfl rfl ?_
    refine r_icmp_eq 70 15 dX15_sendRound_12 rfl rfl ?_ ?_
    · exact s_Tw_sendRound_b70 P W x1 X2 hX2 x2 G
    · refine r_aload_n 16 0 dX15_sendRound_15 rfl rfl rfl ?_
      refine r_get 19 (aR 242) dX15_sendRound_16 fkX15_287 (fun _ => dsT_100 P W _) nn100 rfl rfl ?_
      refine r_aload_n 20 0 dX15_sendRound_19 rfl rfl rfl ?_
      refine r_get 23 (aI (G 100 139)) dX15_sendRound_20 fkX15_818 (fun _ => dsT_100 P W _) nn100 rfl rfl ?_
      refine r_iload_n 24 1 dX15_sendRound_23 rfl rfl rfl ?_
      refine r_iast 25 dX15_sendRound_24 (fun _ _ _ => dsT_242 P W _) (fun _ _ => nn242) rfl ?_
      refine ss_tk (fun G1 => ?_)
      refine r_aload_n 26 0 dX15_sendRound_25 rfl rfl rfl ?_
      refine r_get 29 (aR 243) dX15_sendRound_26 fkX15_290 (fun _ => dsT_100 P W _) nn100 rfl rfl ?_
      refine r_aload_n 30 0 dX15_sendRound_29 rfl rfl rfl ?_
      refine r_get 33 (aI (G1 100 139)) dX15_sendRound_30 fkX15_818 (fun _ => dsT_100 P W _) nn100 rfl rfl ?_
      refine r_iload_n 34 2 dX15_sendRound_33 rfl rfl rfl ?_
      refine r_iast 35 dX15_sendRound_34 (fun _ _ _ => dsT_243 P W _) (fun _ _ => nn243) rfl ?_
      refine ss_tk (fun G2 => ?_)
      refine r_aload_n 36 0 dX15_sendRound_35 rfl rfl rfl ?_
      refine r_get 39 (aR 244) dX15_sendRound_36 fkX15_293 (fun _ => dsT_100 P W _) nn100 rfl rfl ?_
      refine r_aload_n 40 0 dX15_sendRound_39 rfl rfl rfl ?_
      refine r_get 43 (aI (G2 100 139)) dX15_sendRound_40 fkX15_818 (fun _ => dsT_100 P W _) nn100 rfl rfl ?_
      refine r_aload_n 44 0 dX15_sendRound_43 rfl rfl rfl ?_
      refine r_get 47 (aR 233) dX15_sendRound_44 fkX15_265 (fun _ => dsT_100 P W _) nn100 rfl rfl ?_
      refine r_iload_n 48 1 dX15_sendRound_47 rfl rfl rfl ?_
      refine r_iald 49 dX15_sendRound_48 (fun _ _ _ => dsT_233 P W _) (fun _ _ => nn233) rfl ?_
      refine r_iast 50 dX15_sendRound_49 (fun _ _ _ => dsT_244 P W _) (fun _ _ => nn244) rfl ?_
      refine ss_tk (fun G3 => ?_)
      refine r_aload_n 51 0 dX15_sendRound_50 rfl rfl rfl ?_
      refine r_dup 52 dX15_sendRound_51 rfl rfl ?_
      refine r_get 55 (aI (G3 100 139)) dX15_sendRound_52 fkX15_818 (fun _ => dsT_100 P W _) nn100 rfl rfl ?_
      refine r_iconst 56 1 dX15_sendRound_55 rfl rfl ?_
      refine r_iadd 57 dX15_sendRound_56 rfl ?_
      refine r_putI 60 dX15_sendRound_57 fkX15_818 (fun _ => dsT_100 P W _) nn100 rfl rfl ?_
      refine ss_tk (fun G4 => ?_)
      refine r_aload_n 61 0 dX15_sendRound_60 rfl rfl rfl ?_
      refine r_dup 62 dX15_sendRound_61 rfl rfl ?_
      refine r_get 65 (aI (G4 100 131)) dX15_sendRound_62 fkX15_821 (fun _ => dsT_100 P W _) nn100 rfl rfl ?_
      refine r_iconst 66 1 dX15_sendRound_65 rfl rfl ?_
      refine r_iadd 67 dX15_sendRound_66 rfl ?_
      refine r_putI 70 dX15_sendRound_67 fkX15_821 (fun _ => dsT_100 P W _) nn100 rfl rfl ?_
      refine ss_tk (fun G5 => ?_)
      exact s_Tw_sendRound_b70 P W x1 X2 hX2 x2 G5
theorem sl_Tw_sendRound_2 (P W : Int) (x1 : Int) (x2 : Int) (G : St) : SS (MTw_sendRound P W) some 2 [(0, aR 100), (1, aI x1), (2, aI x2)] [] G (Tw_sendRound_l2 P W x1 x2 G) := by
  exact SS.loop (σ := Int × St) (fun s => [(0, aR 100), (1, aI x1), (2, aI (s.1))]) (fun s => s.2) (fun s => Tw_sendRound_s2 P W x1 s.1 s.2) (fun X2 hX2 s => s_Tw_sendRound_s2 P W x1  X2 hX2 s.1 s.2) (x2, G)
theorem s_Tw_sendRound (P W : Int) (x1 : Int) (G : St) : SS (MTw_sendRound P W) some 0 [(0, aR 100), (1, aI x1)] [] G (Tw_sendRound P W x1 G) := by
  refine r_iconst 1 0 dX15_sendRound_0 rfl rfl ?_
  refine r_istore_n 2 [(2, aI 0), (0, aR 100), (1, aI x1)] dX15_sendRound_1 rfl rfl rfl rfl ?_
  refine r_to [1, 2, 0] [(0, aR 100), (1, aI x1), (2, aI 0)] rfl ?_
  exact sl_Tw_sendRound_2 P W x1 0 G
theorem c_Tw_sendRound (P W : Int) (x1 : Int) (G : St) : MG (MTw_sendRound P W) [aR 100, aI x1] G (Tw_sendRound P W x1 G) := MG.of plX15 (Nat.le_of_ble_eq_true rfl) (s_Tw_sendRound P W x1 G)
theorem s_Tw_draw (P W : Int) (G : St) : SS (MTw_draw P W) some 0 [(0, aR 100)] [] G (Tw_draw G) := by
  refine r_aload_n 1 0 dX15_draw_0 rfl rfl rfl ?_
  refine r_get 4 (aI (G 100 121)) dX15_draw_1 fkX15_797 (fun _ => dsT_100 P W _) nn100 rfl rfl ?_
  refine r_if_le 43 7 dX15_draw_4 rfl rfl ?_ ?_
  · refine r_aload_n 44 0 dX15_draw_43 rfl rfl rfl ?_
    refine r_aload_n 45 0 dX15_draw_44 rfl rfl rfl ?_
    refine r_get 48 (aI (G 100 120)) dX15_draw_45 fkX15_310 (fun _ => dsT_100 P W _) nn100 rfl rfl ?_
    refine r_ldcw 51 1103515245 dX15_draw_48 q2740 (by decide) rfl rfl ?_
    refine r_imulw 52 dX15_draw_51 rfl ?_
    refine r_sipush 55 12345 dX15_draw_52 rfl rfl ?_
    refine r_iaddw 56 dX15_draw_55 rfl ?_
    refine r_putI 59 dX15_draw_56 fkX15_310 (fun _ => dsT_100 P W _) nn100 rfl rfl ?_
    refine ss_tk (fun G1 => ?_)
    refine r_aload_n 60 0 dX15_draw_59 rfl rfl rfl ?_
    refine r_get 63 (aI (G1 100 120)) dX15_draw_60 fkX15_310 (fun _ => dsT_100 P W _) nn100 rfl rfl ?_
    refine r_bipush 65 16 dX15_draw_63 rfl rfl ?_
    refine r_iushr 66 dX15_draw_65 rfl ?_
    refine r_iconst 67 1 dX15_draw_66 rfl rfl ?_
    refine r_iand 68 dX15_draw_67 rfl ?_
    exact r_ireturn dX15_draw_68 rfl
  · refine r_aload_n 8 0 dX15_draw_7 rfl rfl rfl ?_
    refine r_get 11 (aR 224) dX15_draw_8 fkX15_243 (fun _ => dsT_100 P W _) nn100 rfl rfl ?_
    refine r_aload_n 12 0 dX15_draw_11 rfl rfl rfl ?_
    refine r_get 15 (aI (G 100 122)) dX15_draw_12 fkX15_800 (fun _ => dsT_100 P W _) nn100 rfl rfl ?_
    refine r_iald 16 dX15_draw_15 (fun _ _ _ => dsT_224 P W _) (fun _ _ => nn224) rfl ?_
    refine r_istore_n 17 [(1, aI (G 224 (G 100 122))), (0, aR 100)] dX15_draw_16 rfl rfl rfl rfl ?_
    refine r_aload_n 18 1 dX15_draw_17 rfl rfl rfl ?_
    refine r_aload_n 19 1 dX15_draw_18 rfl rfl rfl ?_
    refine r_get 22 (aI (G 100 122)) dX15_draw_19 fkX15_800 (fun _ => dsT_100 P W _) nn100 rfl rfl ?_
    refine r_iconst 23 1 dX15_draw_22 rfl rfl ?_
    refine r_iaddw 24 dX15_draw_23 rfl ?_
    refine r_sipush 27 2000 dX15_draw_24 rfl rfl ?_
    refine r_irem 28 dX15_draw_27 rfl ?_
    refine r_putI 31 dX15_draw_28 fkX15_800 (fun _ => dsT_100 P W _) nn100 rfl rfl ?_
    refine ss_tk (fun G2 => ?_)
    refine r_aload_n 32 1 dX15_draw_31 rfl rfl rfl ?_
    refine r_dup 33 dX15_draw_32 rfl rfl ?_
    refine r_get 36 (aI (G2 100 121)) dX15_draw_33 fkX15_797 (fun _ => dsT_100 P W _) nn100 rfl rfl ?_
    refine r_iconst 37 1 dX15_draw_36 rfl rfl ?_
    refine r_isubw 38 dX15_draw_37 rfl ?_
    refine r_putI 41 dX15_draw_38 fkX15_797 (fun _ => dsT_100 P W _) nn100 rfl rfl ?_
    refine ss_tk (fun G3 => ?_)
    refine r_iload_n 42 0 dX15_draw_41 rfl rfl rfl ?_
    exact r_ireturn dX15_draw_42 rfl
theorem c_Tw_draw (P W : Int) (G : St) : MG (MTw_draw P W) [aR 100] G (Tw_draw G) := MG.of plX15 (Nat.le_of_ble_eq_true rfl) (s_Tw_draw P W G)
theorem s_In_bitCount (P W : Int) (x0 : Int) (G : St) : SS (MIn_bitCount P W) some 0 [(0, aI x0)] [] G (In_bitCount x0 G) := by
  refine r_iload_n 1 0 dJ6_bitCount_0 rfl rfl rfl ?_
  refine r_iload_n 2 0 dJ6_bitCount_1 rfl rfl rfl ?_
  refine r_iconst 3 1 dJ6_bitCount_2 rfl rfl ?_
  refine r_iushr 4 dJ6_bitCount_3 rfl ?_
  refine r_ldcw 7 1431655765 dJ6_bitCount_4 q2747 (by decide) rfl rfl ?_
  refine r_iand 8 dJ6_bitCount_7 rfl ?_
  refine r_isubw 9 dJ6_bitCount_8 rfl ?_
  refine r_istore_n 10 [(0, aI (w32 (x0 - (j_an (j_us x0 1) 1431655765))))] dJ6_bitCount_9 rfl rfl rfl rfl ?_
  refine ss_vlI (fun v1 => ?_)
  refine r_iload_n 11 0 dJ6_bitCount_10 rfl rfl rfl ?_
  refine r_ldcw 14 858993459 dJ6_bitCount_11 q2748 (by decide) rfl rfl ?_
  refine r_iand 15 dJ6_bitCount_14 rfl ?_
  refine r_iload_n 16 0 dJ6_bitCount_15 rfl rfl rfl ?_
  refine r_iconst 17 2 dJ6_bitCount_16 rfl rfl ?_
  refine r_iushr 18 dJ6_bitCount_17 rfl ?_
  refine r_ldcw 21 858993459 dJ6_bitCount_18 q2748 (by decide) rfl rfl ?_
  refine r_iand 22 dJ6_bitCount_21 rfl ?_
  refine r_iaddw 23 dJ6_bitCount_22 rfl ?_
  refine r_istore_n 24 [(0, aI (w32 ((j_an v1 858993459) + (j_an (j_us v1 2) 858993459))))] dJ6_bitCount_23 rfl rfl rfl rfl ?_
  refine ss_vlI (fun v2 => ?_)
  refine r_iload_n 25 0 dJ6_bitCount_24 rfl rfl rfl ?_
  refine r_iload_n 26 0 dJ6_bitCount_25 rfl rfl rfl ?_
  refine r_iconst 27 4 dJ6_bitCount_26 rfl rfl ?_
  refine r_iushr 28 dJ6_bitCount_27 rfl ?_
  refine r_iaddw 29 dJ6_bitCount_28 rfl ?_
  refine r_ldcw 32 252645135 dJ6_bitCount_29 q2749 (by decide) rfl rfl ?_
  refine r_iand 33 dJ6_bitCount_32 rfl ?_
  refine r_istore_n 34 [(0, aI (j_an (w32 (v2 + (j_us v2 4))) 252645135))] dJ6_bitCount_33 rfl rfl rfl rfl ?_
  refine ss_vlI (fun v3 => ?_)
  refine r_iload_n 35 0 dJ6_bitCount_34 rfl rfl rfl ?_
  refine r_iload_n 36 0 dJ6_bitCount_35 rfl rfl rfl ?_
  refine r_bipush 38 8 dJ6_bitCount_36 rfl rfl ?_
  refine r_iushr 39 dJ6_bitCount_38 rfl ?_
  refine r_iaddw 40 dJ6_bitCount_39 rfl ?_
  refine r_istore_n 41 [(0, aI (w32 (v3 + (j_us v3 8))))] dJ6_bitCount_40 rfl rfl rfl rfl ?_
  refine r_iload_n 42 0 dJ6_bitCount_41 rfl rfl rfl ?_
  refine r_iload_n 43 0 dJ6_bitCount_42 rfl rfl rfl ?_
  refine r_bipush 45 16 dJ6_bitCount_43 rfl rfl ?_
  refine r_iushr 46 dJ6_bitCount_45 rfl ?_
  refine r_iaddw 47 dJ6_bitCount_46 rfl ?_
  refine r_istore_n 48 [(0, aI (w32 ((w32 (v3 + (j_us v3 8))) + (j_us (w32 (v3 + (j_us v3 8))) 16))))] dJ6_bitCount_47 rfl rfl rfl rfl ?_
  refine ss_vlI (fun v4 => ?_)
  refine r_iload_n 49 0 dJ6_bitCount_48 rfl rfl rfl ?_
  refine r_bipush 51 63 dJ6_bitCount_49 rfl rfl ?_
  refine r_iand 52 dJ6_bitCount_51 rfl ?_
  exact r_ireturn dJ6_bitCount_52 rfl
theorem c_In_bitCount (P W : Int) (x0 : Int) (G : St) : MG (MIn_bitCount P W) [aI x0] G (In_bitCount x0 G) := MG.of plJ6 (Nat.le_of_ble_eq_true rfl) (s_In_bitCount P W x0 G)
theorem s_Tw_parity (P W : Int) (x0 : Int) (G : St) : SS (MTw_parity P W) some 0 [(0, aI x0)] [] G (Tw_parity x0 G) := by
  refine r_iload_n 1 0 dX15_parity_0 rfl rfl rfl ?_
  refine r_callsI 4 (Mc := MIn_bitCount P W) (as := [aI x0]) (st := []) dX15_parity_1 rfl (c_In_bitCount P W x0 G) q2744 (cmIn_bitCount P W) rfl rfl rfl (Nat.le_of_ble_eq_true rfl) (Nat.le_of_ble_eq_true rfl) (fun _ => rfl) rfl (fun z1 G2 => ?_)
  refine r_iconst 5 1 dX15_parity_4 rfl rfl ?_
  refine r_iand 6 dX15_parity_5 rfl ?_
  exact r_ireturn dX15_parity_6 rfl
theorem c_Tw_parity (P W : Int) (x0 : Int) (G : St) : MG (MTw_parity P W) [aI x0] G (Tw_parity x0 G) := MG.of plX15 (Nat.le_of_ble_eq_true rfl) (s_Tw_parity P W x0 G)
theorem s_Tw_shareOf (P W : Int) (x1 : Int) (G : St) : SS (MTw_shareOf P W) some 0 [(0, aR 100), (1, aI x1)] [] G (Tw_shareOf x1 G) := by
  refine r_iload_n 1 1 dX15_shareOf_0 rfl rfl rfl ?_
  refine r_if_ge 10 4 dX15_shareOf_1 rfl rfl ?_ ?_
  · refine r_aload_n 11 0 dX15_shareOf_10 rfl rfl rfl ?_
    refine r_get 14 (aR 226) dX15_shareOf_11 fkX15_247 (fun _ => dsT_100 P W _) nn100 rfl rfl ?_
    refine r_iload_n 15 1 dX15_shareOf_14 rfl rfl rfl ?_
    refine r_iconst 16 1 dX15_shareOf_15 rfl rfl ?_
    refine r_ishr 17 dX15_shareOf_16 rfl ?_
    refine r_iald 18 dX15_shareOf_17 (fun _ _ _ => dsT_226 P W _) (fun _ _ => nn226) rfl ?_
    refine r_iload_n 19 1 dX15_shareOf_18 rfl rfl rfl ?_
    refine r_iconst 20 1 dX15_shareOf_19 rfl rfl ?_
    refine r_iand 21 dX15_shareOf_20 rfl ?_
    refine r_ixor 22 dX15_shareOf_21 rfl ?_
    exact r_ireturn dX15_shareOf_22 rfl
  · refine r_iload_n 5 1 dX15_shareOf_4 rfl rfl rfl ?_
    refine r_iconst 6 1 dX15_shareOf_5 rfl rfl ?_
    refine r_iand 7 dX15_shareOf_6 rfl ?_
    refine r_goto 22 dX15_shareOf_7 rfl ?_
    exact r_ireturn dX15_shareOf_22 rfl
theorem c_Tw_shareOf (P W : Int) (x1 : Int) (G : St) : MG (MTw_shareOf P W) [aR 100, aI x1] G (Tw_shareOf x1 G) := MG.of plX15 (Nat.le_of_ble_eq_true rfl) (s_Tw_shareOf P W x1 G)
theorem s_Tw_shareAll_b421 (P W : Int) (X282 : Int × St → Option (Int × St)) (hX282 : ∀ s, So (MTw_shareAll P W) 282 [(0, aR 100), (1, aI (s.1))] [] s.2 (X282 s)) (x1 : Int) (G : St) : SS (MTw_shareAll P W) (lk X282 some) 421 [(0, aR 100), (1, aI x1)] [] G (Tw_shareAll_b421 P W x1 G) := by
  refine r_iinc 424 [(1, aI (x1 + 1)), (0, aR 100)] 1 dX15_shareAll_421 rfl rfl rfl rfl ?_
  refine r_goto 282 dX15_shareAll_424 rfl ?_
  refine r_to [1, 0] [(0, aR 100), (1, aI (x1 + 1))] rfl ?_
  exact SS.back (hX282 (x1 + 1, G))
theorem s_Tw_shareAll_b413 (P W : Int) (X282 : Int × St → Option (Int × St)) (hX282 : ∀ s, So (MTw_shareAll P W) 282 [(0, aR 100), (1, aI (s.1))] [] s.2 (X282 s)) (x1 : Int) (x4 : Int) (x5 : Int) (s0 : Int) (s1 : Int) (s2 : Int) (G : St) : SS (MTw_shareAll P W) (lk X282 some) 413 [(0, aR 100), (1, aI x1), (4, aI x4), (5, aI x5)] [aI s0, aI s1, aI s2, aR 226] G (Tw_shareAll_b413 P W x1 x4 x5 s0 s1 s2 G) := by
  refine r_ixor 414 dX15_shareAll_413 rfl ?_
  refine r_iload 416 2 dX15_shareAll_414 rfl rfl ?_
  refine r_iload 418 3 dX15_shareAll_416 rfl rfl ?_
  refine r_iand 419 dX15_shareAll_418 rfl ?_
  refine r_ixor 420 dX15_shareAll_419 rfl ?_
  refine r_iast 421 dX15_shareAll_420 (fun _ _ _ => dsT_226 P W _) (fun _ _ => nn226) rfl ?_
  refine ss_tk (fun G9 => ?_)
  refine r_to [0, 1] [(0, aR 100), (1, aI x1)] rfl ?_
  exact s_Tw_shareAll_b421 P W X282 hX282 x1 G9
theorem s_Tw_shareAll_b396 (P W : Int) (X282 : Int × St → Option (Int × St)) (hX282 : ∀ s, So (MTw_shareAll P W) 282 [(0, aR 100), (1, aI (s.1))] [] s.2 (X282 s)) (x1 : Int) (x4 : Int) (x5 : Int) (s0 : Int) (s1 : Int) (s2 : Int) (G : St) : SS (MTw_shareAll P W) (lk X282 some) 396 [(0, aR 100), (1, aI x1), (4, aI x4), (5, aI x5)] [aI s0, aI s1, aI s2, aR 226] G (Tw_shareAll_b396 P W x1 x4 x5 s0 s1 s2 G) := by
  refine r_ixor 397 dX15_shareAll_396 rfl ?_
  refine r_iload 399 3 dX15_shareAll_397 rfl rfl ?_
  refine r_iconst 400 1 dX15_shareAll_399 rfl rfl ?_
  refine r_icmp_ne 412 403 dX15_shareAll_400 rfl rfl ?_ ?_
  · refine r_iconst 413 0 dX15_shareAll_412 rfl rfl ?_
    exact s_Tw_shareAll_b413 P W X282 hX282 x1 x4 x5 0 (j_xo s1 s0) s2 G
  · refine r_aload_n 404 0 dX15_shareAll_403 rfl rfl rfl ?_
    refine r_get 407 (aR 227) dX15_shareAll_404 fkX15_250 (fun _ => dsT_100 P W _) nn100 rfl rfl ?_
    refine r_iload_n 408 1 dX15_shareAll_407 rfl rfl rfl ?_
    refine r_iald 409 dX15_shareAll_408 (fun _ _ _ => dsT_227 P W _) (fun _ _ => nn227) rfl ?_
    refine r_goto 413 dX15_shareAll_409 rfl ?_
    exact s_Tw_shareAll_b413 P W X282 hX282 x1 x4 x5 (G 227 x1) (j_xo s1 s0) s2 G
theorem s_Tw_shareAll_s282 (P W : Int) (X282 : Int × St → Option (Int × St)) (hX282 : ∀ s, So (MTw_shareAll P W) 282 [(0, aR 100), (1, aI (s.1))] [] s.2 (X282 s)) (x1 : Int) (G : St) : SS (MTw_shareAll P W) (lk X282 some) 282 [(0, aR 100), (1, aI x1)] [] G (Tw_shareAll_s282 P W x1 G) := by
  refine r_iload_n 283 1 dX15_shareAll_282 rfl rfl rfl ?_
  refine r_aload_n 284 0 dX15_shareAll_283 rfl rfl rfl ?_
  refine r_get 287 (aI (G 100 66)) dX15_shareAll_284 fkX15_624 (fun _ => dsT_100 P W _) nn100 rfl rfl ?_
  refine r_icmp_ge 427 290 dX15_shareAll_287 rfl rfl ?_ ?_
  · refine SS.ex ?_
    exact r_return dX15_shareAll_427 rfl
  · refine r_aload_n 291 0 dX15_shareAll_290 rfl rfl rfl ?_
    refine r_aload_n 292 0 dX15_shareAll_291 rfl rfl rfl ?_
    refine r_get 295 (aR 174) dX15_shareAll_292 fkX15_130 (fun _ => dsT_100 P W _) nn100 rfl rfl ?_
    refine r_iload_n 296 1 dX15_shareAll_295 rfl rfl rfl ?_
    refine r_iald 297 dX15_shareAll_296 (fun _ _ _ => dsT_174 P W _) (fun _ _ => nn174) rfl ?_
    refine r_callvI 300 (Mc := MTw_shareOf P W) (o := 100) (as := [aI (G 174 x1)]) (st := []) dX15_shareAll_297 rfl (c_Tw_shareOf P W (G 174 x1) G) lkX15_815 (cmTw_shareOf P W) rfl rfl rfl (fun _ => dsT_100 P W _) nn100 rfl (Nat.le_of_ble_eq_true rfl) (Nat.le_of_ble_eq_true rfl) (fun _ => rfl) rfl (fun z1 G2 => ?_)
    refine r_istore_n 301 [(2, aI z1), (0, aR 100), (1, aI x1)] dX15_shareAll_300 rfl rfl rfl rfl ?_
    refine r_aload_n 302 1 dX15_shareAll_301 rfl rfl rfl ?_
    refine r_aload_n 303 1 dX15_shareAll_302 rfl rfl rfl ?_
    refine r_get 306 (aR 175) dX15_shareAll_303 fkX15_133 (fun _ => dsT_100 P W _) nn100 rfl rfl ?_
    refine r_iload_n 307 2 dX15_shareAll_306 rfl rfl rfl ?_
    refine r_iald 308 dX15_shareAll_307 (fun _ _ _ => dsT_175 P W _) (fun _ _ => nn175) rfl ?_
    refine r_callvI 311 (Mc := MTw_shareOf P W) (o := 100) (as := [aI (G2 175 x1)]) (st := []) dX15_shareAll_308 rfl (c_Tw_shareOf P W (G2 175 x1) G2) lkX15_815 (cmTw_shareOf P W) rfl rfl rfl (fun _ => dsT_100 P W _) nn100 rfl (Nat.le_of_ble_eq_true rfl) (Nat.le_of_ble_eq_true rfl) (fun _ => rfl) rfl (fun z3 G4 => ?_)
    refine r_istore_n 312 [(3, aI z3), (2, aI z1), (0, aR 100), (1, aI x1)] dX15_shareAll_311 rfl rfl rfl rfl ?_
    refine r_aload_n 313 2 dX15_shareAll_312 rfl rfl rfl ?_
    refine r_get 316 (aR 172) dX15_shareAll_313 fkX15_124 (fun _ => dsT_100 P W _) nn100 rfl rfl ?_
    refine r_iload_n 317 3 dX15_shareAll_316 rfl rfl rfl ?_
    refine r_iald 318 dX15_shareAll_317 (fun _ _ _ => dsT_172 P W _) (fun _ _ => nn172) rfl ?_
    refine r_if_ne 338 321 dX15_shareAll_318 rfl rfl ?_ ?_
    · refine r_iload_n 339 1 dX15_shareAll_338 rfl rfl rfl ?_
      refine r_aload_n 340 2 dX15_shareAll_339 rfl rfl rfl ?_
      refine r_get 343 (aR 227) dX15_shareAll_340 fkX15_250 (fun _ => dsT_100 P W _) nn100 rfl rfl ?_
      refine r_iload_n 344 3 dX15_shareAll_343 rfl rfl rfl ?_
      refine r_iald 345 dX15_shareAll_344 (fun _ _ _ => dsT_227 P W _) (fun _ _ => nn227) rfl ?_
      refine r_ixor 346 dX15_shareAll_345 rfl ?_
      refine r_callsI 349 (Mc := MTw_parity P W) (as := [aI (j_xo z1 (G4 227 x1))]) (st := []) dX15_shareAll_346 rfl (c_Tw_parity P W (j_xo z1 (G4 227 x1)) G4) q2741 (cmTw_parity P W) rfl rfl rfl (Nat.le_of_ble_eq_true rfl) (Nat.le_of_ble_eq_true rfl) (fun _ => rfl) rfl (fun z5 G6 => ?_)
      refine r_istore 351 [(4, aI z5), (3, aI z3), (2, aI z1), (0, aR 100), (1, aI x1)] dX15_shareAll_349 rfl rfl rfl ?_
      refine r_iload_n 352 1 dX15_shareAll_351 rfl rfl rfl ?_
      refine r_aload_n 353 3 dX15_shareAll_352 rfl rfl rfl ?_
      refine r_get 356 (aR 228) dX15_shareAll_353 fkX15_253 (fun _ => dsT_100 P W _) nn100 rfl rfl ?_
      refine r_iload_n 357 4 dX15_shareAll_356 rfl rfl rfl ?_
      refine r_iald 358 dX15_shareAll_357 (fun _ _ _ => dsT_228 P W _) (fun _ _ => nn228) rfl ?_
      refine r_ixor 359 dX15_shareAll_358 rfl ?_
      refine r_callsI 362 (Mc := MTw_parity P W) (as := [aI (j_xo z3 (G6 228 x1))]) (st := []) dX15_shareAll_359 rfl (c_Tw_parity P W (j_xo z3 (G6 228 x1)) G6) q2741 (cmTw_parity P W) rfl rfl rfl (Nat.le_of_ble_eq_true rfl) (Nat.le_of_ble_eq_true rfl) (fun _ => rfl) rfl (fun z7 G8 => ?_)
      refine r_istore 364 [(5, aI z7), (4, aI z5), (3, aI z3), (2, aI z1), (0, aR 100), (1, aI x1)] dX15_shareAll_362 rfl rfl rfl ?_
      refine r_aload_n 365 4 dX15_shareAll_364 rfl rfl rfl ?_
      refine r_get 368 (aR 226) dX15_shareAll_365 fkX15_247 (fun _ => dsT_100 P W _) nn100 rfl rfl ?_
      refine r_aload_n 369 4 dX15_shareAll_368 rfl rfl rfl ?_
      refine r_get 372 (aI (G8 100 65)) dX15_shareAll_369 fkX15_618 (fun _ => dsT_100 P W _) nn100 rfl rfl ?_
      refine r_iload_n 373 5 dX15_shareAll_372 rfl rfl rfl ?_
      refine r_iadd 374 dX15_shareAll_373 rfl ?_
      refine r_aload_n 375 4 dX15_shareAll_374 rfl rfl rfl ?_
      refine r_get 378 (aR 229) dX15_shareAll_375 fkX15_256 (fun _ => dsT_100 P W _) nn100 rfl rfl ?_
      refine r_iload_n 379 5 dX15_shareAll_378 rfl rfl rfl ?_
      refine r_iald 380 dX15_shareAll_379 (fun _ _ _ => dsT_229 P W _) (fun _ _ => nn229) rfl ?_
      refine r_iload 382 1 dX15_shareAll_380 rfl rfl ?_
      refine r_iconst 383 1 dX15_shareAll_382 rfl rfl ?_
      refine r_icmp_ne 395 386 dX15_shareAll_383 rfl rfl ?_ ?_
      · refine r_iconst 396 0 dX15_shareAll_395 rfl rfl ?_
        refine r_to [4, 5, 1, 0] [(0, aR 100), (1, aI x1), (4, aI z5), (5, aI z7)] rfl ?_
        exact s_Tw_shareAll_b396 P W X282 hX282 x1 z5 z7 0 (G8 229 x1) ((G8 100 65) + x1) G8
      · refine r_aload_n 387 4 dX15_shareAll_386 rfl rfl rfl ?_
        refine r_get 390 (aR 228) dX15_shareAll_387 fkX15_253 (fun _ => dsT_100 P W _) nn100 rfl rfl ?_
        refine r_iload_n 391 5 dX15_shareAll_390 rfl rfl rfl ?_
        refine r_iald 392 dX15_shareAll_391 (fun _ _ _ => dsT_228 P W _) (fun _ _ => nn228) rfl ?_
        refine r_goto 396 dX15_shareAll_392 rfl ?_
        refine r_to [4, 5, 1, 0] [(0, aR 100), (1, aI x1), (4, aI z5), (5, aI z7)] rfl ?_
        exact s_Tw_shareAll_b396 P W X282 hX282 x1 z5 z7 (G8 228 x1) (G8 229 x1) ((G8 100 65) + x1) G8
    · refine r_aload_n 322 2 dX15_shareAll_321 rfl rfl rfl ?_
      refine r_get 325 (aR 226) dX15_shareAll_322 fkX15_247 (fun _ => dsT_100 P W _) nn100 rfl rfl ?_
      refine r_aload_n 326 2 dX15_shareAll_325 rfl rfl rfl ?_
      refine r_get 329 (aI (G4 100 65)) dX15_shareAll_326 fkX15_618 (fun _ => dsT_100 P W _) nn100 rfl rfl ?_
      refine r_iload_n 330 3 dX15_shareAll_329 rfl rfl rfl ?_
      refine r_iadd 331 dX15_shareAll_330 rfl ?_
      refine r_iload_n 332 1 dX15_shareAll_331 rfl rfl rfl ?_
      refine r_iload_n 333 0 dX15_shareAll_332 rfl rfl rfl ?_
      refine r_ixor 334 dX15_shareAll_333 rfl ?_
      refine r_iast 335 dX15_shareAll_334 (fun _ _ _ => dsT_226 P W _) (fun _ _ => nn226) rfl ?_
      refine ss_tk (fun G10 => ?_)
      refine r_goto 421 dX15_shareAll_335 rfl ?_
      refine r_to [2, 3] [(0, aR 100), (1, aI x1)] rfl ?_
      exact s_Tw_shareAll_b421 P W X282 hX282 x1 G10
theorem sl_Tw_shareAll_282 (P W : Int) (x1 : Int) (G : St) : SS (MTw_shareAll P W) some 282 [(0, aR 100), (1, aI x1)] [] G (Tw_shareAll_l282 P W x1 G) := by
  exact SS.loop (σ := Int × St) (fun s => [(0, aR 100), (1, aI (s.1))]) (fun s => s.2) (fun s => Tw_shareAll_s282 P W s.1 s.2) (fun X282 hX282 s => s_Tw_shareAll_s282 P W   X282 hX282 s.1 s.2) (x1, G)
theorem s_Tw_shareAll_b274 (P W : Int) (X125 : Int × St → Option (Int × St)) (hX125 : ∀ s, So (MTw_shareAll P W) 125 [(0, aR 100), (1, aI (s.1))] [] s.2 (X125 s)) (x1 : Int) (G : St) : SS (MTw_shareAll P W) (lk X125 some) 274 [(0, aR 100), (1, aI x1)] [] G (Tw_shareAll_b274 P W x1 G) := by
  refine r_iinc 277 [(1, aI (x1 + 1)), (0, aR 100)] 1 dX15_shareAll_274 rfl rfl rfl rfl ?_
  refine r_goto 125 dX15_shareAll_277 rfl ?_
  refine r_to [1, 0] [(0, aR 100), (1, aI (x1 + 1))] rfl ?_
  exact SS.back (hX125 (x1 + 1, G))
theorem s_Tw_shareAll_s209 (P W : Int) (X125 : Int × St → Option (Int × St)) (hX125 : ∀ s, So (MTw_shareAll P W) 125 [(0, aR 100), (1, aI (s.1))] [] s.2 (X125 s)) (x1 : Int) (x2 : Int) (x3 : Int) (X209 : Int × Int × St → Option (Int × St)) (hX209 : ∀ s, So (MTw_shareAll P W) 209 [(0, aR 100), (1, aI x1), (2, aI x2), (3, aI x3), (4, aI (s.1)), (5, aI (s.2.1))] [] s.2.2 (X209 s)) (x4 : Int) (x5 : Int) (G : St) : SS (MTw_shareAll P W) (lk X209 (lk X125 some)) 209 [(0, aR 100), (1, aI x1), (2, aI x2), (3, aI x3), (4, aI x4), (5, aI x5)] [] G (Tw_shareAll_s209 P W x1 x2 x3 x4 x5 G) := by
  refine r_iload 211 5 dX15_shareAll_209 rfl rfl ?_
  refine r_aload_n 212 0 dX15_shareAll_211 rfl rfl rfl ?_
  refine r_get 215 (aI P) dX15_shareAll_212 fkX15_299 (fun _ => dsT_100 P W _) nn100 rfl rfl ?_
  refine r_icmp_ge 236 218 dX15_shareAll_215 rfl rfl ?_ ?_
  · refine SS.ex ?_
    refine r_aload_n 237 0 dX15_shareAll_236 rfl rfl rfl ?_
    refine r_get 240 (aR 227) dX15_shareAll_237 fkX15_250 (fun _ => dsT_100 P W _) nn100 rfl rfl ?_
    refine r_iload_n 241 1 dX15_shareAll_240 rfl rfl rfl ?_
    refine r_iload_n 242 2 dX15_shareAll_241 rfl rfl rfl ?_
    refine r_iast 243 dX15_shareAll_242 (fun _ _ _ => dsT_227 P W _) (fun _ _ => nn227) rfl ?_
    refine ss_tk (fun G11 => ?_)
    refine r_aload_n 244 0 dX15_shareAll_243 rfl rfl rfl ?_
    refine r_get 247 (aR 228) dX15_shareAll_244 fkX15_253 (fun _ => dsT_100 P W _) nn100 rfl rfl ?_
    refine r_iload_n 248 1 dX15_shareAll_247 rfl rfl rfl ?_
    refine r_iload_n 249 3 dX15_shareAll_248 rfl rfl rfl ?_
    refine r_iast 250 dX15_shareAll_249 (fun _ _ _ => dsT_228 P W _) (fun _ _ => nn228) rfl ?_
    refine ss_tk (fun G12 => ?_)
    refine r_aload_n 251 0 dX15_shareAll_250 rfl rfl rfl ?_
    refine r_get 254 (aR 229) dX15_shareAll_251 fkX15_256 (fun _ => dsT_100 P W _) nn100 rfl rfl ?_
    refine r_iload_n 255 1 dX15_shareAll_254 rfl rfl rfl ?_
    refine r_iload 257 4 dX15_shareAll_255 rfl rfl ?_
    refine r_iload 259 4 dX15_shareAll_257 rfl rfl ?_
    refine r_callsI 262 (Mc := MTw_parity P W) (as := [aI x4]) (st := [aI x4, aI x1, aR 229]) dX15_shareAll_259 rfl (c_Tw_parity P W x4 G12) q2741 (cmTw_parity P W) rfl rfl rfl (Nat.le_of_ble_eq_true rfl) (Nat.le_of_ble_eq_true rfl) (fun _ => rfl) rfl (fun z13 G14 => ?_)
    refine r_iload_n 263 2 dX15_shareAll_262 rfl rfl rfl ?_
    refine r_callsI 266 (Mc := MTw_parity P W) (as := [aI x2]) (st := [aI z13, aI x4, aI x1, aR 229]) dX15_shareAll_263 rfl (c_Tw_parity P W x2 G14) q2741 (cmTw_parity P W) rfl rfl rfl (Nat.le_of_ble_eq_true rfl) (Nat.le_of_ble_eq_true rfl) (fun _ => rfl) rfl (fun z15 G16 => ?_)
    refine r_iload_n 267 3 dX15_shareAll_266 rfl rfl rfl ?_
    refine r_callsI 270 (Mc := MTw_parity P W) (as := [aI x3]) (st := [aI z15, aI z13, aI x4, aI x1, aR 229]) dX15_shareAll_267 rfl (c_Tw_parity P W x3 G16) q2741 (cmTw_parity P W) rfl rfl rfl (Nat.le_of_ble_eq_true rfl) (Nat.le_of_ble_eq_true rfl) (fun _ => rfl) rfl (fun z17 G18 => ?_)
    refine r_iand 271 dX15_shareAll_270 rfl ?_
    refine r_ixor 272 dX15_shareAll_271 rfl ?_
    refine r_ior 273 dX15_shareAll_272 rfl ?_
    refine r_iast 274 dX15_shareAll_273 (fun _ _ _ => dsT_229 P W _) (fun _ _ => nn229) rfl ?_
    refine ss_tk (fun G19 => ?_)
    refine r_to [0, 1] [(0, aR 100), (1, aI x1)] rfl ?_
    exact s_Tw_shareAll_b274 P W X125 hX125 x1 G19
  · refine r_iload 220 4 dX15_shareAll_218 rfl rfl ?_
    refine r_aload_n 221 0 dX15_shareAll_220 rfl rfl rfl ?_
    refine r_callvI 224 (Mc := MTw_draw P W) (o := 100) (as := []) (st := [aI x4]) dX15_shareAll_221 rfl (c_Tw_draw P W G) lkX15_809 (cmTw_draw P W) rfl rfl rfl (fun _ => dsT_100 P W _) nn100 rfl (Nat.le_of_ble_eq_true rfl) (Nat.le_of_ble_eq_true rfl) (fun _ => rfl) rfl (fun z20 G21 => ?_)
    refine r_iload 226 5 dX15_shareAll_224 rfl rfl ?_
    refine r_ishl 227 dX15_shareAll_226 rfl ?_
    refine r_ior 228 dX15_shareAll_227 rfl ?_
    refine r_istore 230 [(4, aI (j_or x4 (j_sl z20 x5))), (0, aR 100), (1, aI x1), (2, aI x2), (3, aI x3), (5, aI x5)] dX15_shareAll_228 rfl rfl rfl ?_
    refine r_iinc 233 [(5, aI (x5 + 1)), (4, aI (j_or x4 (j_sl z20 x5))), (0, aR 100), (1, aI x1), (2, aI x2), (3, aI x3)] 5 dX15_shareAll_230 rfl rfl rfl rfl ?_
    refine r_goto 209 dX15_shareAll_233 rfl ?_
    refine r_to [2, 3, 4, 5, 1, 0] [(0, aR 100), (1, aI x1), (2, aI x2), (3, aI x3), (4, aI (j_or x4 (j_sl z20 x5))), (5, aI (x5 + 1))] rfl ?_
    exact SS.back (hX209 (j_or x4 (j_sl z20 x5), x5 + 1, G21))
theorem sl_Tw_shareAll_209 (P W : Int) (X125 : Int × St → Option (Int × St)) (hX125 : ∀ s, So (MTw_shareAll P W) 125 [(0, aR 100), (1, aI (s.1))] [] s.2 (X125 s)) (x1 : Int) (x2 : Int) (x3 : Int) (x4 : Int) (x5 : Int) (G : St) : SS (MTw_shareAll P W) (lk X125 some) 209 [(0, aR 100), (1, aI x1), (2, aI x2), (3, aI x3), (4, aI x4), (5, aI x5)] [] G (Tw_shareAll_l209 P W x1 x2 x3 x4 x5 G) := by
  exact SS.loop (σ := Int × Int × St) (fun s => [(0, aR 100), (1, aI x1), (2, aI x2), (3, aI x3), (4, aI (s.1)), (5, aI (s.2.1))]) (fun s => s.2.2) (fun s => Tw_shareAll_s209 P W x1 x2 x3 s.1 s.2.1 s.2.2) (fun X209 hX209 s => s_Tw_shareAll_s209 P W X125 hX125 x1 x2 x3  X209 hX209 s.1 s.2.1 s.2.2) (x4, x5, G)
theorem s_Tw_shareAll_s181 (P W : Int) (X125 : Int × St → Option (Int × St)) (hX125 : ∀ s, So (MTw_shareAll P W) 125 [(0, aR 100), (1, aI (s.1))] [] s.2 (X125 s)) (x1 : Int) (x2 : Int) (x4 : Int) (X181 : Int × Int × St → Option (Int × St)) (hX181 : ∀ s, So (MTw_shareAll P W) 181 [(0, aR 100), (1, aI x1), (2, aI x2), (3, aI (s.1)), (4, aI x4), (5, aI (s.2.1))] [] s.2.2 (X181 s)) (x3 : Int) (x5 : Int) (G : St) : SS (MTw_shareAll P W) (lk X181 (lk X125 some)) 181 [(0, aR 100), (1, aI x1), (2, aI x2), (3, aI x3), (4, aI x4), (5, aI x5)] [] G (Tw_shareAll_s181 P W x1 x2 x4 x3 x5 G) := by
  refine r_iload 183 5 dX15_shareAll_181 rfl rfl ?_
  refine r_aload_n 184 0 dX15_shareAll_183 rfl rfl rfl ?_
  refine r_get 187 (aI P) dX15_shareAll_184 fkX15_299 (fun _ => dsT_100 P W _) nn100 rfl rfl ?_
  refine r_icmp_ge 206 190 dX15_shareAll_187 rfl rfl ?_ ?_
  · refine SS.ex ?_
    refine r_iconst 207 1 dX15_shareAll_206 rfl rfl ?_
    refine r_istore 209 [(5, aI 1), (0, aR 100), (1, aI x1), (2, aI x2), (3, aI x3), (4, aI x4)] dX15_shareAll_207 rfl rfl rfl ?_
    refine r_to [1, 2, 3, 4, 5, 0] [(0, aR 100), (1, aI x1), (2, aI x2), (3, aI x3), (4, aI x4), (5, aI 1)] rfl ?_
    exact sl_Tw_shareAll_209 P W X125 hX125 x1 x2 x3 x4 1 G
  · refine r_iload_n 191 3 dX15_shareAll_190 rfl rfl rfl ?_
    refine r_aload_n 192 0 dX15_shareAll_191 rfl rfl rfl ?_
    refine r_callvI 195 (Mc := MTw_draw P W) (o := 100) (as := []) (st := [aI x3]) dX15_shareAll_192 rfl (c_Tw_draw P W G) lkX15_809 (cmTw_draw P W) rfl rfl rfl (fun _ => dsT_100 P W _) nn100 rfl (Nat.le_of_ble_eq_true rfl) (Nat.le_of_ble_eq_true rfl) (fun _ => rfl) rfl (fun z22 G23 => ?_)
    refine r_iload 197 5 dX15_shareAll_195 rfl rfl ?_
    refine r_ishl 198 dX15_shareAll_197 rfl ?_
    refine r_ior 199 dX15_shareAll_198 rfl ?_
    refine r_istore_n 200 [(3, aI (j_or x3 (j_sl z22 x5))), (0, aR 100), (1, aI x1), (2, aI x2), (4, aI x4), (5, aI x5)] dX15_shareAll_199 rfl rfl rfl rfl ?_
    refine r_iinc 203 [(5, aI (x5 + 1)), (3, aI (j_or x3 (j_sl z22 x5))), (0, aR 100), (1, aI x1), (2, aI x2), (4, aI x4)] 5 dX15_shareAll_200 rfl rfl rfl rfl ?_
    refine r_goto 181 dX15_shareAll_203 rfl ?_
    refine r_to [2, 3, 4, 1, 5, 0] [(0, aR 100), (1, aI x1), (2, aI x2), (3, aI (j_or x3 (j_sl z22 x5))), (4, aI x4), (5, aI (x5 + 1))] rfl ?_
    exact SS.back (hX181 (j_or x3 (j_sl z22 x5), x5 + 1, G23))
theorem sl_Tw_shareAll_181 (P W : Int) (X125 : Int × St → Option (Int × St)) (hX125 : ∀ s, So (MTw_shareAll P W) 125 [(0, aR 100), (1, aI (s.1))] [] s.2 (X125 s)) (x1 : Int) (x2 : Int) (x4 : Int) (x3 : Int) (x5 : Int) (G : St) : SS (MTw_shareAll P W) (lk X125 some) 181 [(0, aR 100), (1, aI x1), (2, aI x2), (3, aI x3), (4, aI x4), (5, aI x5)] [] G (Tw_shareAll_l181 P W x1 x2 x4 x3 x5 G) := by
  exact SS.loop (σ := Int × Int × St) (fun s => [(0, aR 100), (1, aI x1), (2, aI x2), (3, aI (s.1)), (4, aI x4), (5, aI (s.2.1))]) (fun s => s.2.2) (fun s => Tw_shareAll_s181 P W x1 x2 x4 s.1 s.2.1 s.2.2) (fun X181 hX181 s => s_Tw_shareAll_s181 P W X125 hX125 x1 x2 x4  X181 hX181 s.1 s.2.1 s.2.2) (x3, x5, G)
theorem s_Tw_shareAll_s153 (P W : Int) (X125 : Int × St → Option (Int × St)) (hX125 : ∀ s, So (MTw_shareAll P W) 125 [(0, aR 100), (1, aI (s.1))] [] s.2 (X125 s)) (x1 : Int) (x3 : Int) (x4 : Int) (X153 : Int × Int × St → Option (Int × St)) (hX153 : ∀ s, So (MTw_shareAll P W) 153 [(0, aR 100), (1, aI x1), (2, aI (s.1)), (3, aI x3), (4, aI x4), (5, aI (s.2.1))] [] s.2.2 (X153 s)) (x2 : Int) (x5 : Int) (G : St) : SS (MTw_shareAll P W) (lk X153 (lk X125 some)) 153 [(0, aR 100), (1, aI x1), (2, aI x2), (3, aI x3), (4, aI x4), (5, aI x5)] [] G (Tw_shareAll_s153 P W x1 x3 x4 x2 x5 G) := by
  refine r_iload 155 5 dX15_shareAll_153 rfl rfl ?_
  refine r_aload_n 156 0 dX15_shareAll_155 rfl rfl rfl ?_
  refine r_get 159 (aI P) dX15_shareAll_156 fkX15_299 (fun _ => dsT_100 P W _) nn100 rfl rfl ?_
  refine r_icmp_ge 178 162 dX15_shareAll_159 rfl rfl ?_ ?_
  · refine SS.ex ?_
    refine r_iconst 179 0 dX15_shareAll_178 rfl rfl ?_
    refine r_istore 181 [(5, aI 0), (0, aR 100), (1, aI x1), (2, aI x2), (3, aI x3), (4, aI x4)] dX15_shareAll_179 rfl rfl rfl ?_
    refine r_to [1, 2, 3, 4, 5, 0] [(0, aR 100), (1, aI x1), (2, aI x2), (3, aI x3), (4, aI x4), (5, aI 0)] rfl ?_
    exact sl_Tw_shareAll_181 P W X125 hX125 x1 x2 x4 x3 0 G
  · refine r_iload_n 163 2 dX15_shareAll_162 rfl rfl rfl ?_
    refine r_aload_n 164 0 dX15_shareAll_163 rfl rfl rfl ?_
    refine r_callvI 167 (Mc := MTw_draw P W) (o := 100) (as := []) (st := [aI x2]) dX15_shareAll_164 rfl (c_Tw_draw P W G) lkX15_809 (cmTw_draw P W) rfl rfl rfl (fun _ => dsT_100 P W _) nn100 rfl (Nat.le_of_ble_eq_true rfl) (Nat.le_of_ble_eq_true rfl) (fun _ => rfl) rfl (fun z24 G25 => ?_)
    refine r_iload 169 5 dX15_shareAll_167 rfl rfl ?_
    refine r_ishl 170 dX15_shareAll_169 rfl ?_
    refine r_ior 171 dX15_shareAll_170 rfl ?_
    refine r_istore_n 172 [(2, aI (j_or x2 (j_sl z24 x5))), (0, aR 100), (1, aI x1), (3, aI x3), (4, aI x4), (5, aI x5)] dX15_shareAll_171 rfl rfl rfl rfl ?_
    refine r_iinc 175 [(5, aI (x5 + 1)), (2, aI (j_or x2 (j_sl z24 x5))), (0, aR 100), (1, aI x1), (3, aI x3), (4, aI x4)] 5 dX15_shareAll_172 rfl rfl rfl rfl ?_
    refine r_goto 153 dX15_shareAll_175 rfl ?_
    refine r_to [2, 3, 1, 4, 5, 0] [(0, aR 100), (1, aI x1), (2, aI (j_or x2 (j_sl z24 x5))), (3, aI x3), (4, aI x4), (5, aI (x5 + 1))] rfl ?_
    exact SS.back (hX153 (j_or x2 (j_sl z24 x5), x5 + 1, G25))
theorem sl_Tw_shareAll_153 (P W : Int) (X125 : Int × St → Option (Int × St)) (hX125 : ∀ s, So (MTw_shareAll P W) 125 [(0, aR 100), (1, aI (s.1))] [] s.2 (X125 s)) (x1 : Int) (x3 : Int) (x4 : Int) (x2 : Int) (x5 : Int) (G : St) : SS (MTw_shareAll P W) (lk X125 some) 153 [(0, aR 100), (1, aI x1), (2, aI x2), (3, aI x3), (4, aI x4), (5, aI x5)] [] G (Tw_shareAll_l153 P W x1 x3 x4 x2 x5 G) := by
  exact SS.loop (σ := Int × Int × St) (fun s => [(0, aR 100), (1, aI x1), (2, aI (s.1)), (3, aI x3), (4, aI x4), (5, aI (s.2.1))]) (fun s => s.2.2) (fun s => Tw_shareAll_s153 P W x1 x3 x4 s.1 s.2.1 s.2.2) (fun X153 hX153 s => s_Tw_shareAll_s153 P W X125 hX125 x1 x3 x4  X153 hX153 s.1 s.2.1 s.2.2) (x2, x5, G)
theorem s_Tw_shareAll_s125 (P W : Int) (X125 : Int × St → Option (Int × St)) (hX125 : ∀ s, So (MTw_shareAll P W) 125 [(0, aR 100), (1, aI (s.1))] [] s.2 (X125 s)) (x1 : Int) (G : St) : SS (MTw_shareAll P W) (lk X125 some) 125 [(0, aR 100), (1, aI x1)] [] G (Tw_shareAll_s125 P W x1 G) := by
  refine r_iload_n 126 1 dX15_shareAll_125 rfl rfl rfl ?_
  refine r_aload_n 127 0 dX15_shareAll_126 rfl rfl rfl ?_
  refine r_get 130 (aI (G 100 66)) dX15_shareAll_127 fkX15_624 (fun _ => dsT_100 P W _) nn100 rfl rfl ?_
  refine r_icmp_ge 280 133 dX15_shareAll_130 rfl rfl ?_ ?_
  · refine SS.ex ?_
    refine r_iconst 281 0 dX15_shareAll_280 rfl rfl ?_
    refine r_istore_n 282 [(1, aI 0), (0, aR 100)] dX15_shareAll_281 rfl rfl rfl rfl ?_
    refine r_to [1, 0] [(0, aR 100), (1, aI 0)] rfl ?_
    exact sl_Tw_shareAll_282 P W 0 G
  · refine r_aload_n 134 0 dX15_shareAll_133 rfl rfl rfl ?_
    refine r_get 137 (aR 172) dX15_shareAll_134 fkX15_124 (fun _ => dsT_100 P W _) nn100 rfl rfl ?_
    refine r_iload_n 138 1 dX15_shareAll_137 rfl rfl rfl ?_
    refine r_iald 139 dX15_shareAll_138 (fun _ _ _ => dsT_172 P W _) (fun _ _ => nn172) rfl ?_
    refine r_iconst 140 1 dX15_shareAll_139 rfl rfl ?_
    refine r_icmp_ne 274 143 dX15_shareAll_140 rfl rfl ?_ ?_
    · exact s_Tw_shareAll_b274 P W X125 hX125 x1 G
    · refine r_iconst 144 0 dX15_shareAll_143 rfl rfl ?_
      refine r_istore_n 145 [(2, aI 0), (0, aR 100), (1, aI x1)] dX15_shareAll_144 rfl rfl rfl rfl ?_
      refine r_iconst 146 0 dX15_shareAll_145 rfl rfl ?_
      refine r_istore_n 147 [(3, aI 0), (2, aI 0), (0, aR 100), (1, aI x1)] dX15_shareAll_146 rfl rfl rfl rfl ?_
      refine r_iconst 148 0 dX15_shareAll_147 rfl rfl ?_
      refine r_istore 150 [(4, aI 0), (3, aI 0), (2, aI 0), (0, aR 100), (1, aI x1)] dX15_shareAll_148 rfl rfl rfl ?_
      refine r_iconst 151 0 dX15_shareAll_150 rfl rfl ?_
      refine r_istore 153 [(5, aI 0), (4, aI 0), (3, aI 0), (2, aI 0), (0, aR 100), (1, aI x1)] dX15_shareAll_151 rfl rfl rfl ?_
      refine r_to [4, 5, 3, 2, 1, 0] [(0, aR 100), (1, aI x1), (2, aI 0), (3, aI 0), (4, aI 0), (5, aI 0)] rfl ?_
      exact sl_Tw_shareAll_153 P W X125 hX125 x1 0 0 0 0 G
theorem sl_Tw_shareAll_125 (P W : Int) (x1 : Int) (G : St) : SS (MTw_shareAll P W) some 125 [(0, aR 100), (1, aI x1)] [] G (Tw_shareAll_l125 P W x1 G) := by
  exact SS.loop (σ := Int × St) (fun s => [(0, aR 100), (1, aI (s.1))]) (fun s => s.2) (fun s => Tw_shareAll_s125 P W s.1 s.2) (fun X125 hX125 s => s_Tw_shareAll_s125 P W   X125 hX125 s.1 s.2) (x1, G)
theorem s_Tw_shareAll_b63 (P W : Int) (X2 : Int × St → Option (Int × St)) (hX2 : ∀ s, So (MTw_shareAll P W) 2 [(0, aR 100), (1, aI (s.1))] [] s.2 (X2 s)) (x1 : Int) (X12 : Int × St → Option (Int × St)) (hX12 : ∀ s, So (MTw_shareAll P W) 12 [(0, aR 100), (1, aI x1), (2, aI (s.1))] [] s.2 (X12 s)) (x2 : Int) (x3 : Int) (X35 : Int × Int × St → Option (Int × St)) (hX35 : ∀ s, So (MTw_shareAll P W) 35 [(0, aR 100), (1, aI x1), (2, aI x2), (3, aI x3), (4, aI (s.1)), (5, aI (s.2.1))] [] s.2.2 (X35 s)) (x5 : Int) (s0 : Int) (s1 : Int) (G : St) : SS (MTw_shareAll P W) (lk X35 (lk X12 (lk X2 some))) 63 [(0, aR 100), (1, aI x1), (2, aI x2), (3, aI x3), (5, aI x5)] [aI s0, aI s1] G (Tw_shareAll_b63 P W x1 x2 x3 x5 s0 s1 G) := by
  refine r_ior 64 dX15_shareAll_63 rfl ?_
  refine r_istore 66 [(4, aI (j_or s1 s0)), (0, aR 100), (1, aI x1), (2, aI x2), (3, aI x3), (5, aI x5)] dX15_shareAll_64 rfl rfl rfl ?_
  refine r_iinc 69 [(5, aI (x5 + 1)), (4, aI (j_or s1 s0)), (0, aR 100), (1, aI x1), (2, aI x2), (3, aI x3)] 5 dX15_shareAll_66 rfl rfl rfl rfl ?_
  refine r_goto 35 dX15_shareAll_69 rfl ?_
  refine r_to [2, 3, 4, 5, 1, 0] [(0, aR 100), (1, aI x1), (2, aI x2), (3, aI x3), (4, aI (j_or s1 s0)), (5, aI (x5 + 1))] rfl ?_
  exact SS.back (hX35 (j_or s1 s0, x5 + 1, G))
theorem s_Tw_shareAll_s35 (P W : Int) (X2 : Int × St → Option (Int × St)) (hX2 : ∀ s, So (MTw_shareAll P W) 2 [(0, aR 100), (1, aI (s.1))] [] s.2 (X2 s)) (x1 : Int) (X12 : Int × St → Option (Int × St)) (hX12 : ∀ s, So (MTw_shareAll P W) 12 [(0, aR 100), (1, aI x1), (2, aI (s.1))] [] s.2 (X12 s)) (x2 : Int) (x3 : Int) (X35 : Int × Int × St → Option (Int × St)) (hX35 : ∀ s, So (MTw_shareAll P W) 35 [(0, aR 100), (1, aI x1), (2, aI x2), (3, aI x3), (4, aI (s.1)), (5, aI (s.2.1))] [] s.2.2 (X35 s)) (x4 : Int) (x5 : Int) (G : St) : SS (MTw_shareAll P W) (lk X35 (lk X12 (lk X2 some))) 35 [(0, aR 100), (1, aI x1), (2, aI x2), (3, aI x3), (4, aI x4), (5, aI x5)] [] G (Tw_shareAll_s35 P W x1 x2 x3 x4 x5 G) := by
  refine r_iload 37 5 dX15_shareAll_35 rfl rfl ?_
  refine r_aload_n 38 0 dX15_shareAll_37 rfl rfl rfl ?_
  refine r_get 41 (aI P) dX15_shareAll_38 fkX15_299 (fun _ => dsT_100 P W _) nn100 rfl rfl ?_
  refine r_icmp_ge 72 44 dX15_shareAll_41 rfl rfl ?_ ?_
  · refine SS.ex ?_
    refine r_aload_n 73 0 dX15_shareAll_72 rfl rfl rfl ?_
    refine r_get 76 (aR 181) dX15_shareAll_73 fkX15_148 (fun _ => dsT_100 P W _) nn100 rfl rfl ?_
    refine r_iload_n 77 1 dX15_shareAll_76 rfl rfl rfl ?_
    refine r_lald 78 dX15_shareAll_77 (fun _ _ _ => dsT_181 P W _) (fun _ _ => nn181) rfl ?_
    refine r_iload_n 79 2 dX15_shareAll_78 rfl rfl rfl ?_
    refine r_lshr 80 dX15_shareAll_79 rfl ?_
    refine r_lconst 81 1 dX15_shareAll_80 rfl rfl rfl ?_
    refine r_land 82 dX15_shareAll_81 rfl ?_
    refine r_l2iw 83 dX15_shareAll_82 rfl ?_
    refine r_istore 85 [(5, aI (w32 (j_lan (j_lsr (G 181 x1) x2) 1))), (0, aR 100), (1, aI x1), (2, aI x2), (3, aI x3), (4, aI x4)] dX15_shareAll_83 rfl rfl rfl ?_
    refine ss_vlI (fun v26 => ?_)
    refine r_aload_n 86 1 dX15_shareAll_85 rfl rfl rfl ?_
    refine r_get 89 (aR 226) dX15_shareAll_86 fkX15_247 (fun _ => dsT_100 P W _) nn100 rfl rfl ?_
    refine r_aload_n 90 1 dX15_shareAll_89 rfl rfl rfl ?_
    refine r_get 93 (aR 179) dX15_shareAll_90 fkX15_142 (fun _ => dsT_100 P W _) nn100 rfl rfl ?_
    refine r_iload_n 94 2 dX15_shareAll_93 rfl rfl rfl ?_
    refine r_iald 95 dX15_shareAll_94 (fun _ _ _ => dsT_179 P W _) (fun _ _ => nn179) rfl ?_
    refine r_iload_n 96 3 dX15_shareAll_95 rfl rfl rfl ?_
    refine r_iadd 97 dX15_shareAll_96 rfl ?_
    refine r_iload 99 5 dX15_shareAll_97 rfl rfl ?_
    refine r_iload 101 5 dX15_shareAll_99 rfl rfl ?_
    refine r_callsI 104 (Mc := MTw_parity P W) (as := [aI x4]) (st := [aI x4, aI ((G 179 x1) + x2), aR 226]) dX15_shareAll_101 rfl (c_Tw_parity P W x4 G) q2741 (cmTw_parity P W) rfl rfl rfl (Nat.le_of_ble_eq_true rfl) (Nat.le_of_ble_eq_true rfl) (fun _ => rfl) rfl (fun z27 G28 => ?_)
    refine r_iload 106 0 dX15_shareAll_104 rfl rfl ?_
    refine r_ixor 107 dX15_shareAll_106 rfl ?_
    refine r_iload_n 108 4 dX15_shareAll_107 rfl rfl rfl ?_
    refine r_ishl 109 dX15_shareAll_108 rfl ?_
    refine r_ior 110 dX15_shareAll_109 rfl ?_
    refine r_iast 111 dX15_shareAll_110 (fun _ _ _ => dsT_226 P W _) (fun _ _ => nn226) rfl ?_
    refine ss_tk (fun G29 => ?_)
    refine r_iinc 114 [(2, aI (x2 + 1)), (5, aI v26), (0, aR 100), (1, aI x1), (3, aI x3), (4, aI x4)] 3 dX15_shareAll_111 rfl rfl rfl rfl ?_
    refine r_goto 12 dX15_shareAll_114 rfl ?_
    refine r_to [2, 3, 0] [(0, aR 100), (1, aI x1), (2, aI (x2 + 1))] rfl ?_
    exact SS.back (hX12 (x2 + 1, G29))
  · refine r_iload 46 4 dX15_shareAll_44 rfl rfl ?_
    refine r_iload 48 5 dX15_shareAll_46 rfl rfl ?_
    refine r_iload_n 49 3 dX15_shareAll_48 rfl rfl rfl ?_
    refine r_icmp_ne 56 52 dX15_shareAll_49 rfl rfl ?_ ?_
    · refine r_aload_n 57 0 dX15_shareAll_56 rfl rfl rfl ?_
      refine r_callvI 60 (Mc := MTw_draw P W) (o := 100) (as := []) (st := [aI x4]) dX15_shareAll_57 rfl (c_Tw_draw P W G) lkX15_809 (cmTw_draw P W) rfl rfl rfl (fun _ => dsT_100 P W _) nn100 rfl (Nat.le_of_ble_eq_true rfl) (Nat.le_of_ble_eq_true rfl) (fun _ => rfl) rfl (fun z30 G31 => ?_)
      refine r_iload 62 5 dX15_shareAll_60 rfl rfl ?_
      refine r_ishl 63 dX15_shareAll_62 rfl ?_
      refine r_to [0, 1, 2, 3, 5] [(0, aR 100), (1, aI x1), (2, aI x2), (3, aI x3), (5, aI x5)] rfl ?_
      exact s_Tw_shareAll_b63 P W X2 hX2 x1 X12 hX12 x2 x3 X35 hX35 x5 (j_sl z30 x5) x4 G31
    · refine r_iconst 53 0 dX15_shareAll_52 rfl rfl ?_
      refine r_goto 63 dX15_shareAll_53 rfl ?_
      refine r_to [0, 1, 2, 3, 5] [(0, aR 100), (1, aI x1), (2, aI x2), (3, aI x3), (5, aI x5)] rfl ?_
      exact s_Tw_shareAll_b63 P W X2 hX2 x1 X12 hX12 x2 x3 X35 hX35 x5 0 x4 G
theorem sl_Tw_shareAll_35 (P W : Int) (X2 : Int × St → Option (Int × St)) (hX2 : ∀ s, So (MTw_shareAll P W) 2 [(0, aR 100), (1, aI (s.1))] [] s.2 (X2 s)) (x1 : Int) (X12 : Int × St → Option (Int × St)) (hX12 : ∀ s, So (MTw_shareAll P W) 12 [(0, aR 100), (1, aI x1), (2, aI (s.1))] [] s.2 (X12 s)) (x2 : Int) (x3 : Int) (x4 : Int) (x5 : Int) (G : St) : SS (MTw_shareAll P W) (lk X12 (lk X2 some)) 35 [(0, aR 100), (1, aI x1), (2, aI x2), (3, aI x3), (4, aI x4), (5, aI x5)] [] G (Tw_shareAll_l35 P W x1 x2 x3 x4 x5 G) := by
  exact SS.loop (σ := Int × Int × St) (fun s => [(0, aR 100), (1, aI x1), (2, aI x2), (3, aI x3), (4, aI (s.1)), (5, aI (s.2.1))]) (fun s => s.2.2) (fun s => Tw_shareAll_s35 P W x1 x2 x3 s.1 s.2.1 s.2.2) (fun X35 hX35 s => s_Tw_shareAll_s35 P W X2 hX2 x1 X12 hX12 x2 x3  X35 hX35 s.1 s.2.1 s.2.2) (x4, x5, G)
theorem s_Tw_shareAll_s12 (P W : Int) (X2 : Int × St → Option (Int × St)) (hX2 : ∀ s, So (MTw_shareAll P W) 2 [(0, aR 100), (1, aI (s.1))] [] s.2 (X2 s)) (x1 : Int) (X12 : Int × St → Option (Int × St)) (hX12 : ∀ s, So (MTw_shareAll P W) 12 [(0, aR 100), (1, aI x1), (2, aI (s.1))] [] s.2 (X12 s)) (x2 : Int) (G : St) : SS (MTw_shareAll P W) (lk X12 (lk X2 some)) 12 [(0, aR 100), (1, aI x1), (2, aI x2)] [] G (Tw_shareAll_s12 P W x1 x2 G) := by
  refine r_iload_n 13 2 dX15_shareAll_12 rfl rfl rfl ?_
  refine r_aload_n 14 0 dX15_shareAll_13 rfl rfl rfl ?_
  refine r_get 17 (aR 178) dX15_shareAll_14 fkX15_139 (fun _ => dsT_100 P W _) nn100 rfl rfl ?_
  refine r_iload_n 18 1 dX15_shareAll_17 rfl rfl rfl ?_
  refine r_iald 19 dX15_shareAll_18 (fun _ _ _ => dsT_178 P W _) (fun _ _ => nn178) rfl ?_
  refine r_icmp_ge 117 22 dX15_shareAll_19 rfl rfl ?_ ?_
  · refine SS.ex ?_
    refine r_iinc 120 [(1, aI (x1 + 1)), (0, aR 100), (2, aI x2)] 1 dX15_shareAll_117 rfl rfl rfl rfl ?_
    refine r_goto 2 dX15_shareAll_120 rfl ?_
    refine r_to [1, 0] [(0, aR 100), (1, aI (x1 + 1))] rfl ?_
    exact SS.back (hX2 (x1 + 1, G))
  · refine r_aload_n 23 0 dX15_shareAll_22 rfl rfl rfl ?_
    refine r_get 26 (aR 177) dX15_shareAll_23 fkX15_136 (fun _ => dsT_100 P W _) nn100 rfl rfl ?_
    refine r_iload_n 27 1 dX15_shareAll_26 rfl rfl rfl ?_
    refine r_iald 28 dX15_shareAll_27 (fun _ _ _ => dsT_177 P W _) (fun _ _ => nn177) rfl ?_
    refine r_istore_n 29 [(3, aI (G 177 x1)), (0, aR 100), (1, aI x1), (2, aI x2)] dX15_shareAll_28 rfl rfl rfl rfl ?_
    refine r_iconst 30 0 dX15_shareAll_29 rfl rfl ?_
    refine r_istore 32 [(4, aI 0), (3, aI (G 177 x1)), (0, aR 100), (1, aI x1), (2, aI x2)] dX15_shareAll_30 rfl rfl rfl ?_
    refine r_iconst 33 0 dX15_shareAll_32 rfl rfl ?_
    refine r_istore 35 [(5, aI 0), (4, aI 0), (3, aI (G 177 x1)), (0, aR 100), (1, aI x1), (2, aI x2)] dX15_shareAll_33 rfl rfl rfl ?_
    refine r_to [3, 4, 5, 2, 1, 0] [(0, aR 100), (1, aI x1), (2, aI x2), (3, aI (G 177 x1)), (4, aI 0), (5, aI 0)] rfl ?_
    exact sl_Tw_shareAll_35 P W X2 hX2 x1 X12 hX12 x2 (G 177 x1) 0 0 G
theorem sl_Tw_shareAll_12 (P W : Int) (X2 : Int × St → Option (Int × St)) (hX2 : ∀ s, So (MTw_shareAll P W) 2 [(0, aR 100), (1, aI (s.1))] [] s.2 (X2 s)) (x1 : Int) (x2 : Int) (G : St) : SS (MTw_shareAll P W) (lk X2 some) 12 [(0, aR 100), (1, aI x1), (2, aI x2)] [] G (Tw_shareAll_l12 P W x1 x2 G) := by
  exact SS.loop (σ := Int × St) (fun s => [(0, aR 100), (1, aI x1), (2, aI (s.1))]) (fun s => s.2) (fun s => Tw_shareAll_s12 P W x1 s.1 s.2) (fun X12 hX12 s => s_Tw_shareAll_s12 P W X2 hX2 x1  X12 hX12 s.1 s.2) (x2, G)
theorem s_Tw_shareAll_s2 (P W : Int) (X2 : Int × St → Option (Int × St)) (hX2 : ∀ s, So (MTw_shareAll P W) 2 [(0, aR 100), (1, aI (s.1))] [] s.2 (X2 s)) (x1 : Int) (G : St) : SS (MTw_shareAll P W) (lk X2 some) 2 [(0, aR 100), (1, aI x1)] [] G (Tw_shareAll_s2 P W x1 G) := by
  refine r_iload_n 3 1 dX15_shareAll_2 rfl rfl rfl ?_
  refine r_aload_n 4 0 dX15_shareAll_3 rfl rfl rfl ?_
  refine r_get 7 (aI (G 100 75)) dX15_shareAll_4 fkX15_663 (fun _ => dsT_100 P W _) nn100 rfl rfl ?_
  refine r_icmp_ge 123 10 dX15_shareAll_7 rfl rfl ?_ ?_
  · refine SS.ex ?_
    refine r_iconst 124 0 dX15_shareAll_123 rfl rfl ?_
    refine r_istore_n 125 [(1, aI 0), (0, aR 100)] dX15_shareAll_124 rfl rfl rfl rfl ?_
    refine r_to [1, 0] [(0, aR 100), (1, aI 0)] rfl ?_
    exact sl_Tw_shareAll_125 P W 0 G
  · refine r_iconst 11 0 dX15_shareAll_10 rfl rfl ?_
    refine r_istore_n 12 [(2, aI 0), (0, aR 100), (1, aI x1)] dX15_shareAll_11 rfl rfl rfl rfl ?_
    refine r_to [1, 2, 0] [(0, aR 100), (1, aI x1), (2, aI 0)] rfl ?_
    exact sl_Tw_shareAll_12 P W X2 hX2 x1 0 G
theorem sl_Tw_shareAll_2 (P W : Int) (x1 : Int) (G : St) : SS (MTw_shareAll P W) some 2 [(0, aR 100), (1, aI x1)] [] G (Tw_shareAll_l2 P W x1 G) := by
  exact SS.loop (σ := Int × St) (fun s => [(0, aR 100), (1, aI (s.1))]) (fun s => s.2) (fun s => Tw_shareAll_s2 P W s.1 s.2) (fun X2 hX2 s => s_Tw_shareAll_s2 P W   X2 hX2 s.1 s.2) (x1, G)
theorem s_Tw_shareAll (P W : Int) (G : St) : SS (MTw_shareAll P W) some 0 [(0, aR 100)] [] G (Tw_shareAll P W G) := by
  refine r_iconst 1 0 dX15_shareAll_0 rfl rfl ?_
  refine r_istore_n 2 [(1, aI 0), (0, aR 100)] dX15_shareAll_1 rfl rfl rfl rfl ?_
  refine r_to [1, 0] [(0, aR 100), (1, aI 0)] rfl ?_
  exact sl_Tw_shareAll_2 P W 0 G
theorem c_Tw_shareAll (P W : Int) (G : St) : MG (MTw_shareAll P W) [aR 100] G (Tw_shareAll P W G) := MG.of plX15 (Nat.le_of_ble_eq_true rfl) (s_Tw_shareAll P W G)
