set_option maxRecDepth 100000
theorem s_Tw_deal_s103 (P W : Int) (X103 : Int × St → Option (Int × St)) (hX103 : ∀ s, So (MTw_deal P W) 103 [(0, aR 100), (1, aI (s.1))] [] s.2 (X103 s)) (x1 : Int) (G : St) : SS (MTw_deal P W) (lk X103 some) 103 [(0, aR 100), (1, aI x1)] [] G (Tw_deal_s103 P W x1 G) := by
  refine r_iload_n 104 1 dX15_deal_103 rfl rfl rfl ?_
  refine r_aload_n 105 0 dX15_deal_104 rfl rfl rfl ?_
  refine r_get 108 (aI P) dX15_deal_105 fkX15_299 (fun _ => dsT_100 P W _) nn100 rfl rfl ?_
  refine r_icmp_ge 122 111 dX15_deal_108 rfl rfl ?_ ?_
  · refine SS.ex ?_
    refine r_iconst 123 1 dX15_deal_122 rfl rfl ?_
    exact r_zreturn dX15_deal_123 rfl
  · refine r_aload_n 112 0 dX15_deal_111 rfl rfl rfl ?_
    refine r_iload_n 113 1 dX15_deal_112 rfl rfl rfl ?_
    refine r_callvV 116 (Mc := MTw_sendRound P W) (o := 100) (as := [aI x1]) (st := []) dX15_deal_113 rfl (c_Tw_sendRound P W x1 G) lkX15_833 (cmTw_sendRound P W) rfl rfl rfl (fun _ => dsT_100 P W _) nn100 rfl (Nat.le_of_ble_eq_true rfl) (Nat.le_of_ble_eq_true rfl) (fun _ => rfl) rfl (fun z6 G7 => ?_)
    refine r_iinc 119 [(1, aI (x1 + 1)), (0, aR 100)] 1 dX15_deal_116 rfl rfl rfl rfl ?_
    refine r_goto 103 dX15_deal_119 rfl ?_
    refine r_to [1, 0] [(0, aR 100), (1, aI (x1 + 1))] rfl ?_
    exact SS.back (hX103 (x1 + 1, G7))
theorem sl_Tw_deal_103 (P W : Int) (x1 : Int) (G : St) : SS (MTw_deal P W) some 103 [(0, aR 100), (1, aI x1)] [] G (Tw_deal_l103 P W x1 G) := by
  exact SS.loop (σ := Int × St) (fun s => [(0, aR 100), (1, aI (s.1))]) (fun s => s.2) (fun s => Tw_deal_s103 P W s.1 s.2) (fun X103 hX103 s => s_Tw_deal_s103 P W   X103 hX103 s.1 s.2) (x1, G)
theorem s_Tw_deal_s52 (P W : Int) (X52 : Int × St → Option (Int × St)) (hX52 : ∀ s, So (MTw_deal P W) 52 [(0, aR 100), (1, aI (s.1))] [] s.2 (X52 s)) (x1 : Int) (G : St) : SS (MTw_deal P W) (lk X52 some) 52 [(0, aR 100), (1, aI x1)] [] G (Tw_deal_s52 P W x1 G) := by
  refine r_iload_n 53 1 dX15_deal_52 rfl rfl rfl ?_
  refine r_aload_n 54 0 dX15_deal_53 rfl rfl rfl ?_
  refine r_get 57 (aI P) dX15_deal_54 fkX15_299 (fun _ => dsT_100 P W _) nn100 rfl rfl ?_
  refine r_icmp_ge 101 60 dX15_deal_57 rfl rfl ?_ ?_
  · refine SS.ex ?_
    refine r_iconst 102 0 dX15_deal_101 rfl rfl ?_
    refine r_istore_n 103 [(1, aI 0), (0, aR 100)] dX15_deal_102 rfl rfl rfl rfl ?_
    refine r_to [1, 0] [(0, aR 100), (1, aI 0)] rfl ?_
    exact sl_Tw_deal_103 P W 0 G
  · refine r_aload_n 61 0 dX15_deal_60 rfl rfl rfl ?_
    refine r_get 64 (aR 233) dX15_deal_61 fkX15_265 (fun _ => dsT_100 P W _) nn100 rfl rfl ?_
    refine r_iload_n 65 1 dX15_deal_64 rfl rfl rfl ?_
    refine r_iconst 66 0 dX15_deal_65 rfl rfl ?_
    refine r_iast 67 dX15_deal_66 (fun _ _ _ => dsT_233 P W _) (fun _ _ => nn233) rfl ?_
    refine ss_tk (fun G8 => ?_)
    refine r_aload_n 68 0 dX15_deal_67 rfl rfl rfl ?_
    refine r_get 71 (aR 234) dX15_deal_68 fkX15_268 (fun _ => dsT_100 P W _) nn100 rfl rfl ?_
    refine r_iload_n 72 1 dX15_deal_71 rfl rfl rfl ?_
    refine r_iconst 73 0 dX15_deal_72 rfl rfl ?_
    refine r_iast 74 dX15_deal_73 (fun _ _ _ => dsT_234 P W _) (fun _ _ => nn234) rfl ?_
    refine ss_tk (fun G9 => ?_)
    refine r_aload_n 75 0 dX15_deal_74 rfl rfl rfl ?_
    refine r_get 78 (aR 235) dX15_deal_75 fkX15_271 (fun _ => dsT_100 P W _) nn100 rfl rfl ?_
    refine r_iload_n 79 1 dX15_deal_78 rfl rfl rfl ?_
    refine r_iconst 80 0 dX15_deal_79 rfl rfl ?_
    refine r_iast 81 dX15_deal_80 (fun _ _ _ => dsT_235 P W _) (fun _ _ => nn235) rfl ?_
    refine ss_tk (fun G10 => ?_)
    refine r_aload_n 82 0 dX15_deal_81 rfl rfl rfl ?_
    refine r_get 85 (aR 236) dX15_deal_82 fkX15_274 (fun _ => dsT_100 P W _) nn100 rfl rfl ?_
    refine r_iload_n 86 1 dX15_deal_85 rfl rfl rfl ?_
    refine r_iconst 87 0 dX15_deal_86 rfl rfl ?_
    refine r_iast 88 dX15_deal_87 (fun _ _ _ => dsT_236 P W _) (fun _ _ => nn236) rfl ?_
    refine ss_tk (fun G11 => ?_)
    refine r_aload_n 89 0 dX15_deal_88 rfl rfl rfl ?_
    refine r_get 92 (aR 237) dX15_deal_89 fkX15_277 (fun _ => dsT_100 P W _) nn100 rfl rfl ?_
    refine r_iload_n 93 1 dX15_deal_92 rfl rfl rfl ?_
    refine r_iconst 94 0 dX15_deal_93 rfl rfl ?_
    refine r_iast 95 dX15_deal_94 (fun _ _ _ => dsT_237 P W _) (fun _ _ => nn237) rfl ?_
    refine ss_tk (fun G12 => ?_)
    refine r_iinc 98 [(1, aI (x1 + 1)), (0, aR 100)] 1 dX15_deal_95 rfl rfl rfl rfl ?_
    refine r_goto 52 dX15_deal_98 rfl ?_
    refine r_to [1, 0] [(0, aR 100), (1, aI (x1 + 1))] rfl ?_
    exact SS.back (hX52 (x1 + 1, G12))
theorem sl_Tw_deal_52 (P W : Int) (x1 : Int) (G : St) : SS (MTw_deal P W) some 52 [(0, aR 100), (1, aI x1)] [] G (Tw_deal_l52 P W x1 G) := by
  exact SS.loop (σ := Int × St) (fun s => [(0, aR 100), (1, aI (s.1))]) (fun s => s.2) (fun s => Tw_deal_s52 P W s.1 s.2) (fun X52 hX52 s => s_Tw_deal_s52 P W   X52 hX52 s.1 s.2) (x1, G)
theorem s_Tw_deal_s20 (P W : Int) (X20 : Int × St → Option (Int × St)) (hX20 : ∀ s, So (MTw_deal P W) 20 [(0, aR 100), (1, aI (s.1))] [] s.2 (X20 s)) (x1 : Int) (G : St) : SS (MTw_deal P W) (lk X20 some) 20 [(0, aR 100), (1, aI x1)] [] G (Tw_deal_s20 P W x1 G) := by
  refine r_iload_n 21 1 dX15_deal_20 rfl rfl rfl ?_
  refine r_aload_n 22 0 dX15_deal_21 rfl rfl rfl ?_
  refine r_get 25 (aI (G 100 75)) dX15_deal_22 fkX15_663 (fun _ => dsT_100 P W _) nn100 rfl rfl ?_
  refine r_icmp_ge 46 28 dX15_deal_25 rfl rfl ?_ ?_
  · refine SS.ex ?_
    refine r_aload_n 47 0 dX15_deal_46 rfl rfl rfl ?_
    refine r_callvV 50 (Mc := MTw_shareAll P W) (o := 100) (as := []) (st := []) dX15_deal_47 rfl (c_Tw_shareAll P W G) lkX15_857 (cmTw_shareAll P W) rfl rfl rfl (fun _ => dsT_100 P W _) nn100 rfl (Nat.le_of_ble_eq_true rfl) (Nat.le_of_ble_eq_true rfl) (fun _ => rfl) rfl (fun z4 G5 => ?_)
    refine r_iconst 51 0 dX15_deal_50 rfl rfl ?_
    refine r_istore_n 52 [(1, aI 0), (0, aR 100)] dX15_deal_51 rfl rfl rfl rfl ?_
    refine r_to [1, 0] [(0, aR 100), (1, aI 0)] rfl ?_
    exact sl_Tw_deal_52 P W 0 G5
  · refine r_aload_n 29 0 dX15_deal_28 rfl rfl rfl ?_
    refine r_get 32 (aR 181) dX15_deal_29 fkX15_148 (fun _ => dsT_100 P W _) nn100 rfl rfl ?_
    refine r_iload_n 33 1 dX15_deal_32 rfl rfl rfl ?_
    refine r_aload_n 34 0 dX15_deal_33 rfl rfl rfl ?_
    refine r_get 37 (aR 180) dX15_deal_34 fkX15_145 (fun _ => dsT_100 P W _) nn100 rfl rfl ?_
    refine r_iload_n 38 1 dX15_deal_37 rfl rfl rfl ?_
    refine r_lald 39 dX15_deal_38 (fun _ _ _ => dsT_180 P W _) (fun _ _ => nn180) rfl ?_
    refine r_last 40 dX15_deal_39 (fun _ _ _ => dsT_181 P W _) (fun _ _ => nn181) rfl ?_
    refine ss_tk (fun G13 => ?_)
    refine r_iinc 43 [(1, aI (x1 + 1)), (0, aR 100)] 1 dX15_deal_40 rfl rfl rfl rfl ?_
    refine r_goto 20 dX15_deal_43 rfl ?_
    refine r_to [1, 0] [(0, aR 100), (1, aI (x1 + 1))] rfl ?_
    exact SS.back (hX20 (x1 + 1, G13))
theorem sl_Tw_deal_20 (P W : Int) (x1 : Int) (G : St) : SS (MTw_deal P W) some 20 [(0, aR 100), (1, aI x1)] [] G (Tw_deal_l20 P W x1 G) := by
  exact SS.loop (σ := Int × St) (fun s => [(0, aR 100), (1, aI (s.1))]) (fun s => s.2) (fun s => Tw_deal_s20 P W s.1 s.2) (fun X20 hX20 s => s_Tw_deal_s20 P W   X20 hX20 s.1 s.2) (x1, G)
theorem s_Tw_deal (P W : Int) (G : St) : SS (MTw_deal P W) some 0 [(0, aR 100)] [] G (Tw_deal P W G) := by
  refine r_aload_n 1 0 dX15_deal_0 rfl rfl rfl ?_
  refine r_get 4 (aI (G 100 83)) dX15_deal_1 fkX15_848 (fun _ => dsT_100 P W _) nn100 rfl rfl ?_
  refine r_if_ne 9 7 dX15_deal_4 rfl rfl ?_ ?_
  · refine r_aload_n 10 0 dX15_deal_9 rfl rfl rfl ?_
    refine r_callvV 13 (Mc := MTw_forget P W) (o := 100) (as := []) (st := []) dX15_deal_10 rfl (c_Tw_forget P W G) lkX15_836 (cmTw_forget P W) rfl rfl rfl (fun _ => dsT_100 P W _) nn100 rfl (Nat.le_of_ble_eq_true rfl) (Nat.le_of_ble_eq_true rfl) (fun _ => rfl) rfl (fun z1 G2 => ?_)
    refine r_aload_n 14 0 dX15_deal_13 rfl rfl rfl ?_
    refine r_iconst 15 1 dX15_deal_14 rfl rfl ?_
    refine r_putZ 18 dX15_deal_15 fkX15_762 (fun _ => dsT_100 P W _) nn100 rfl rfl ?_
    refine ss_tk (fun G3 => ?_)
    refine r_iconst 19 0 dX15_deal_18 rfl rfl ?_
    refine r_istore_n 20 [(1, aI 0), (0, aR 100)] dX15_deal_19 rfl rfl rfl rfl ?_
    refine r_to [1, 0] [(0, aR 100), (1, aI 0)] rfl ?_
    exact sl_Tw_deal_20 P W 0 G3
  · refine r_iconst 8 0 dX15_deal_7 rfl rfl ?_
    exact r_zreturn dX15_deal_8 rfl
theorem c_Tw_deal (P W : Int) (G : St) : MG (MTw_deal P W) [aR 100] G (Tw_deal P W G) := MG.of plX15 (Nat.le_of_ble_eq_true rfl) (s_Tw_deal P W G)
theorem s_Tw_lengthOf (P W : Int) (x1 : Int) (x2 : Int) (G : St) : SS (MTw_lengthOf P W) some 0 [(0, aR 100), (1, aI x1), (2, aI x2)] [] G (Tw_lengthOf x1 x2 G) := by
  refine r_iload_n 1 2 dX15_lengthOf_0 rfl rfl rfl ?_
  refine r_if_ne 13 4 dX15_lengthOf_1 rfl rfl ?_ ?_
  · refine r_iload_n 14 2 dX15_lengthOf_13 rfl rfl rfl ?_
    refine r_aload_n 15 0 dX15_lengthOf_14 rfl rfl rfl ?_
    refine r_get 18 (aI (G 100 68)) dX15_lengthOf_15 fkX15_633 (fun _ => dsT_100 P W _) nn100 rfl rfl ?_
    refine r_icmp_gt 41 21 dX15_lengthOf_18 rfl rfl ?_ ?_
    · refine r_aload_n 42 0 dX15_lengthOf_41 rfl rfl rfl ?_
      refine r_get 45 (aI (G 100 145)) dX15_lengthOf_42 fkX15_824 (fun _ => dsT_100 P W _) nn100 rfl rfl ?_
      exact r_ireturn dX15_lengthOf_45 rfl
    · refine r_iconst 22 2 dX15_lengthOf_21 rfl rfl ?_
      refine r_aload_n 23 0 dX15_lengthOf_22 rfl rfl rfl ?_
      refine r_get 26 (aR 230) dX15_lengthOf_23 fkX15_259 (fun _ => dsT_100 P W _) nn100 rfl rfl ?_
      refine r_iload_n 27 2 dX15_lengthOf_26 rfl rfl rfl ?_
      refine r_iconst 28 1 dX15_lengthOf_27 rfl rfl ?_
      refine r_iadd 29 dX15_lengthOf_28 rfl ?_
      refine r_iald 30 dX15_lengthOf_29 (fun _ _ _ => dsT_230 P W _) (fun _ _ => nn230) rfl ?_
      refine r_aload_n 31 0 dX15_lengthOf_30 rfl rfl rfl ?_
      refine r_get 34 (aR 230) dX15_lengthOf_31 fkX15_259 (fun _ => dsT_100 P W _) nn100 rfl rfl ?_
      refine r_iload_n 35 2 dX15_lengthOf_34 rfl rfl rfl ?_
      refine r_iald 36 dX15_lengthOf_35 (fun _ _ _ => dsT_230 P W _) (fun _ _ => nn230) rfl ?_
      refine r_isub 37 dX15_lengthOf_36 rfl ?_
      refine r_imul 38 dX15_lengthOf_37 rfl ?_
      refine r_goto 45 dX15_lengthOf_38 rfl ?_
      exact r_ireturn dX15_lengthOf_45 rfl
  · refine r_aload_n 5 0 dX15_lengthOf_4 rfl rfl rfl ?_
    refine r_get 8 (aR 245) dX15_lengthOf_5 fkX15_296 (fun _ => dsT_100 P W _) nn100 rfl rfl ?_
    refine r_iload_n 9 1 dX15_lengthOf_8 rfl rfl rfl ?_
    refine r_iald 10 dX15_lengthOf_9 (fun _ _ _ => dsT_245 P W _) (fun _ _ => nn245) rfl ?_
    refine r_goto 45 dX15_lengthOf_10 rfl ?_
    exact r_ireturn dX15_lengthOf_45 rfl
theorem c_Tw_lengthOf (P W : Int) (x1 : Int) (x2 : Int) (G : St) : MG (MTw_lengthOf P W) [aR 100, aI x1, aI x2] G (Tw_lengthOf x1 x2 G) := MG.of plX15 (Nat.le_of_ble_eq_true rfl) (s_Tw_lengthOf P W x1 x2 G)
theorem s_Tw_sentBit_s177 (P W : Int) (x1 : Int) (X177 : Int × Int × St → Option (Int × St)) (hX177 : ∀ s, So (MTw_sentBit P W) 177 [(0, aR 100), (1, aI x1), (5, aI (s.1)), (6, aI (s.2.1))] [] s.2.2 (X177 s)) (x5 : Int) (x6 : Int) (G : St) : SS (MTw_sentBit P W) (lk X177 some) 177 [(0, aR 100), (1, aI x1), (5, aI x5), (6, aI x6)] [] G (Tw_sentBit_s177 x1 x5 x6 G) := by
  refine r_iload 179 3 dX15_sentBit_177 rfl rfl ?_
  refine r_aload_n 180 0 dX15_sentBit_179 rfl rfl rfl ?_
  refine r_get 183 (aR 182) dX15_sentBit_180 fkX15_151 (fun _ => dsT_100 P W _) nn100 rfl rfl ?_
  refine r_iload 185 2 dX15_sentBit_183 rfl rfl ?_
  refine r_iald 186 dX15_sentBit_185 (fun _ _ _ => dsT_182 P W _) (fun _ _ => nn182) rfl ?_
  refine r_icmp_lt 207 189 dX15_sentBit_186 rfl rfl ?_ ?_
  · refine SS.ex ?_
    refine r_aload_n 208 0 dX15_sentBit_207 rfl rfl rfl ?_
    refine r_aload_n 209 0 dX15_sentBit_208 rfl rfl rfl ?_
    refine r_get 212 (aR 183) dX15_sentBit_209 fkX15_154 (fun _ => dsT_100 P W _) nn100 rfl rfl ?_
    refine r_bipush 214 32 dX15_sentBit_212 rfl rfl ?_
    refine r_iload 216 2 dX15_sentBit_214 rfl rfl ?_
    refine r_imul 217 dX15_sentBit_216 rfl ?_
    refine r_iload 219 3 dX15_sentBit_217 rfl rfl ?_
    refine r_iadd 220 dX15_sentBit_219 rfl ?_
    refine r_iald 221 dX15_sentBit_220 (fun _ _ _ => dsT_183 P W _) (fun _ _ => nn183) rfl ?_
    refine r_callvI 224 (Mc := MTw_shareOf P W) (o := 100) (as := [aI (G 183 ((32 * x5) + x6))]) (st := []) dX15_sentBit_221 rfl (c_Tw_shareOf P W (G 183 ((32 * x5) + x6)) G) lkX15_815 (cmTw_shareOf P W) rfl rfl rfl (fun _ => dsT_100 P W _) nn100 rfl (Nat.le_of_ble_eq_true rfl) (Nat.le_of_ble_eq_true rfl) (fun _ => rfl) rfl (fun z1 G2 => ?_)
    refine r_iload_n 225 1 dX15_sentBit_224 rfl rfl rfl ?_
    refine r_ishr 226 dX15_sentBit_225 rfl ?_
    refine r_iconst 227 1 dX15_sentBit_226 rfl rfl ?_
    refine r_iand 228 dX15_sentBit_227 rfl ?_
    exact r_ireturn dX15_sentBit_228 rfl
  · refine r_iload 191 3 dX15_sentBit_189 rfl rfl ?_
    refine r_aload_n 192 0 dX15_sentBit_191 rfl rfl rfl ?_
    refine r_get 195 (aR 182) dX15_sentBit_192 fkX15_151 (fun _ => dsT_100 P W _) nn100 rfl rfl ?_
    refine r_iload 197 2 dX15_sentBit_195 rfl rfl ?_
    refine r_iald 198 dX15_sentBit_197 (fun _ _ _ => dsT_182 P W _) (fun _ _ => nn182) rfl ?_
    refine r_isub 199 dX15_sentBit_198 rfl ?_
    refine r_istore 201 [(6, aI (x6 - (G 182 x5))), (0, aR 100), (1, aI x1), (5, aI x5)] dX15_sentBit_199 rfl rfl rfl ?_
    refine r_iinc 204 [(5, aI (x5 + 1)), (6, aI (x6 - (G 182 x5))), (0, aR 100), (1, aI x1)] 3 dX15_sentBit_201 rfl rfl rfl rfl ?_
    refine r_goto 177 dX15_sentBit_204 rfl ?_
    refine r_to [2, 3, 0, 1] [(0, aR 100), (1, aI x1), (5, aI (x5 + 1)), (6, aI (x6 - (G 182 x5)))] rfl ?_
    exact SS.back (hX177 (x5 + 1, x6 - (G 182 x5), G))
theorem sl_Tw_sentBit_177 (P W : Int) (x1 : Int) (x5 : Int) (x6 : Int) (G : St) : SS (MTw_sentBit P W) some 177 [(0, aR 100), (1, aI x1), (5, aI x5), (6, aI x6)] [] G (Tw_sentBit_l177 x1 x5 x6 G) := by
  exact SS.loop (σ := Int × Int × St) (fun s => [(0, aR 100), (1, aI x1), (5, aI (s.1)), (6, aI (s.2.1))]) (fun s => s.2.2) (fun s => Tw_sentBit_s177 x1 s.1 s.2.1 s.2.2) (fun X177 hX177 s => s_Tw_sentBit_s177 P W x1  X177 hX177 s.1 s.2.1 s.2.2) (x5, x6, G)
theorem s_Tw_sentBit_b161 (P W : Int) (x1 : Int) (s0 : Int) (G : St) : SS (MTw_sentBit P W) some 161 [(1, aI x1)] [aI s0] G (Tw_sentBit_b161 x1 s0 G) := by
  refine r_istore 163 [(6, aI s0), (1, aI x1)] dX15_sentBit_161 rfl rfl rfl ?_
  refine r_iload 165 0 dX15_sentBit_163 rfl rfl ?_
  refine r_iload_n 166 1 dX15_sentBit_165 rfl rfl rfl ?_
  refine r_ishr 167 dX15_sentBit_166 rfl ?_
  refine r_iconst 168 1 dX15_sentBit_167 rfl rfl ?_
  refine r_iand 169 dX15_sentBit_168 rfl ?_
  exact r_ireturn dX15_sentBit_169 rfl
theorem s_Tw_sentBit_b58 (P W : Int) (x1 : Int) (x2 : Int) (X11 : Int × Int × St → Option (Int × St)) (hX11 : ∀ s, So (MTw_sentBit P W) 11 [(0, aR 100), (1, aI x1), (2, aI x2), (5, aI (s.1)), (6, aI (s.2.1))] [] s.2.2 (X11 s)) (x5 : Int) (s0 : Int) (s1 : Int) (G : St) : SS (MTw_sentBit P W) (lk X11 some) 58 [(0, aR 100), (1, aI x1), (2, aI x2), (5, aI x5)] [aI s0, aI s1] G (Tw_sentBit_b58 x1 x2 x5 s0 s1 G) := by
  refine r_isub 59 dX15_sentBit_58 rfl ?_
  refine r_istore 61 [(6, aI (s1 - s0)), (0, aR 100), (1, aI x1), (2, aI x2), (5, aI x5)] dX15_sentBit_59 rfl rfl rfl ?_
  refine r_iinc 64 [(5, aI (x5 + 1)), (6, aI (s1 - s0)), (0, aR 100), (1, aI x1), (2, aI x2)] 4 dX15_sentBit_61 rfl rfl rfl rfl ?_
  refine r_goto 11 dX15_sentBit_64 rfl ?_
  refine r_to [2, 3, 4, 0, 1] [(0, aR 100), (1, aI x1), (2, aI x2), (5, aI (x5 + 1)), (6, aI (s1 - s0))] rfl ?_
  exact SS.back (hX11 (x5 + 1, s1 - s0, G))
theorem s_Tw_sentBit_b34 (P W : Int) (x1 : Int) (x2 : Int) (X11 : Int × Int × St → Option (Int × St)) (hX11 : ∀ s, So (MTw_sentBit P W) 11 [(0, aR 100), (1, aI x1), (2, aI x2), (5, aI (s.1)), (6, aI (s.2.1))] [] s.2.2 (X11 s)) (x5 : Int) (x6 : Int) (G : St) : SS (MTw_sentBit P W) (lk X11 some) 34 [(0, aR 100), (1, aI x1), (2, aI x2), (5, aI x5), (6, aI x6)] [] G (Tw_sentBit_b34 x1 x2 x5 x6 G) := by
  refine r_iload 36 4 dX15_sentBit_34 rfl rfl ?_
  refine r_aload_n 37 0 dX15_sentBit_36 rfl rfl rfl ?_
  refine r_get 40 (aR 177) dX15_sentBit_37 fkX15_136 (fun _ => dsT_100 P W _) nn100 rfl rfl ?_
  refine r_iload 42 3 dX15_sentBit_40 rfl rfl ?_
  refine r_iald 43 dX15_sentBit_42 (fun _ _ _ => dsT_177 P W _) (fun _ _ => nn177) rfl ?_
  refine r_iload_n 44 1 dX15_sentBit_43 rfl rfl rfl ?_
  refine r_icmp_ne 57 47 dX15_sentBit_44 rfl rfl ?_ ?_
  · refine r_iconst 58 0 dX15_sentBit_57 rfl rfl ?_
    refine r_to [0, 1, 2, 3] [(0, aR 100), (1, aI x1), (2, aI x2), (5, aI x5)] rfl ?_
    exact s_Tw_sentBit_b58 P W x1 x2 X11 hX11 x5 0 x6 G
  · refine r_aload_n 48 0 dX15_sentBit_47 rfl rfl rfl ?_
    refine r_get 51 (aR 178) dX15_sentBit_48 fkX15_139 (fun _ => dsT_100 P W _) nn100 rfl rfl ?_
    refine r_iload 53 3 dX15_sentBit_51 rfl rfl ?_
    refine r_iald 54 dX15_sentBit_53 (fun _ _ _ => dsT_178 P W _) (fun _ _ => nn178) rfl ?_
    refine r_goto 58 dX15_sentBit_54 rfl ?_
    refine r_to [0, 1, 2, 3] [(0, aR 100), (1, aI x1), (2, aI x2), (5, aI x5)] rfl ?_
    exact s_Tw_sentBit_b58 P W x1 x2 X11 hX11 x5 (G 178 x5) x6 G
theorem s_Tw_sentBit_s11 (P W : Int) (x1 : Int) (x2 : Int) (X11 : Int × Int × St → Option (Int × St)) (hX11 : ∀ s, So (MTw_sentBit P W) 11 [(0, aR 100), (1, aI x1), (2, aI x2), (5, aI (s.1)), (6, aI (s.2.1))] [] s.2.2 (X11 s)) (x5 : Int) (x6 : Int) (G : St) : SS (MTw_sentBit P W) (lk X11 some) 11 [(0, aR 100), (1, aI x1), (2, aI x2), (5, aI x5), (6, aI x6)] [] G (Tw_sentBit_s11 x1 x2 x5 x6 G) := by
  refine r_aload_n 12 0 dX15_sentBit_11 rfl rfl rfl ?_
  refine r_get 15 (aR 177) dX15_sentBit_12 fkX15_136 (fun _ => dsT_100 P W _) nn100 rfl rfl ?_
  refine r_iload 17 3 dX15_sentBit_15 rfl rfl ?_
  refine r_iald 18 dX15_sentBit_17 (fun _ _ _ => dsT_177 P W _) (fun _ _ => nn177) rfl ?_
  refine r_iload_n 19 1 dX15_sentBit_18 rfl rfl rfl ?_
  refine r_icmp_ne 34 22 dX15_sentBit_19 rfl rfl ?_ ?_
  · exact s_Tw_sentBit_b34 P W x1 x2 X11 hX11 x5 x6 G
  · refine r_iload 24 4 dX15_sentBit_22 rfl rfl ?_
    refine r_aload_n 25 0 dX15_sentBit_24 rfl rfl rfl ?_
    refine r_get 28 (aR 178) dX15_sentBit_25 fkX15_139 (fun _ => dsT_100 P W _) nn100 rfl rfl ?_
    refine r_iload 30 3 dX15_sentBit_28 rfl rfl ?_
    refine r_iald 31 dX15_sentBit_30 (fun _ _ _ => dsT_178 P W _) (fun _ _ => nn178) rfl ?_
    refine r_icmp_lt 67 34 dX15_sentBit_31 rfl rfl ?_ ?_
    · refine SS.ex ?_
      refine r_aload_n 68 0 dX15_sentBit_67 rfl rfl rfl ?_
      refine r_get 71 (aR 226) dX15_sentBit_68 fkX15_247 (fun _ => dsT_100 P W _) nn100 rfl rfl ?_
      refine r_aload_n 72 0 dX15_sentBit_71 rfl rfl rfl ?_
      refine r_get 75 (aR 179) dX15_sentBit_72 fkX15_142 (fun _ => dsT_100 P W _) nn100 rfl rfl ?_
      refine r_iload 77 3 dX15_sentBit_75 rfl rfl ?_
      refine r_iald 78 dX15_sentBit_77 (fun _ _ _ => dsT_179 P W _) (fun _ _ => nn179) rfl ?_
      refine r_iload 80 4 dX15_sentBit_78 rfl rfl ?_
      refine r_iadd 81 dX15_sentBit_80 rfl ?_
      refine r_iald 82 dX15_sentBit_81 (fun _ _ _ => dsT_226 P W _) (fun _ _ => nn226) rfl ?_
      refine r_iload_n 83 2 dX15_sentBit_82 rfl rfl rfl ?_
      refine r_ishr 84 dX15_sentBit_83 rfl ?_
      refine r_iconst 85 1 dX15_sentBit_84 rfl rfl ?_
      refine r_iand 86 dX15_sentBit_85 rfl ?_
      exact r_ireturn dX15_sentBit_86 rfl
    · exact s_Tw_sentBit_b34 P W x1 x2 X11 hX11 x5 x6 G
theorem sl_Tw_sentBit_11 (P W : Int) (x1 : Int) (x2 : Int) (x5 : Int) (x6 : Int) (G : St) : SS (MTw_sentBit P W) some 11 [(0, aR 100), (1, aI x1), (2, aI x2), (5, aI x5), (6, aI x6)] [] G (Tw_sentBit_l11 x1 x2 x5 x6 G) := by
  exact SS.loop (σ := Int × Int × St) (fun s => [(0, aR 100), (1, aI x1), (2, aI x2), (5, aI (s.1)), (6, aI (s.2.1))]) (fun s => s.2.2) (fun s => Tw_sentBit_s11 x1 x2 s.1 s.2.1 s.2.2) (fun X11 hX11 s => s_Tw_sentBit_s11 P W x1 x2  X11 hX11 s.1 s.2.1 s.2.2) (x5, x6, G)
theorem s_Tw_sentBit (P W : Int) (x1 : Int) (x2 : Int) (x3 : Int) (x4 : Int) (G : St) : SS (MTw_sentBit P W) some 0 [(0, aR 100), (1, aI x1), (2, aI x2), (3, aI x3), (4, aI x4)] [] G (Tw_sentBit x1 x2 x3 x4 G) := by
  refine r_iload_n 1 3 dX15_sentBit_0 rfl rfl rfl ?_
  refine r_if_ne 87 4 dX15_sentBit_1 rfl rfl ?_ ?_
  · refine r_iload_n 88 3 dX15_sentBit_87 rfl rfl rfl ?_
    refine r_aload_n 89 0 dX15_sentBit_88 rfl rfl rfl ?_
    refine r_get 92 (aI (G 100 68)) dX15_sentBit_89 fkX15_633 (fun _ => dsT_100 P W _) nn100 rfl rfl ?_
    refine r_icmp_gt 170 95 dX15_sentBit_92 rfl rfl ?_ ?_
    · refine r_iconst 171 0 dX15_sentBit_170 rfl rfl ?_
      refine r_istore 173 [(5, aI 0), (0, aR 100), (1, aI x1), (2, aI x2), (3, aI x3), (4, aI x4)] dX15_sentBit_171 rfl rfl rfl ?_
      refine r_iload 175 5 dX15_sentBit_173 rfl rfl ?_
      refine r_istore 177 [(6, aI x4), (5, aI 0), (0, aR 100), (1, aI x1), (2, aI x2), (3, aI x3), (4, aI x4)] dX15_sentBit_175 rfl rfl rfl ?_
      refine r_to [2, 3, 1, 0] [(0, aR 100), (1, aI x1), (5, aI 0), (6, aI x4)] rfl ?_
      exact sl_Tw_sentBit_177 P W x1 0 x4 G
    · refine r_aload_n 96 0 dX15_sentBit_95 rfl rfl rfl ?_
      refine r_get 99 (aR 231) dX15_sentBit_96 fkX15_262 (fun _ => dsT_100 P W _) nn100 rfl rfl ?_
      refine r_aload_n 100 0 dX15_sentBit_99 rfl rfl rfl ?_
      refine r_get 103 (aR 230) dX15_sentBit_100 fkX15_259 (fun _ => dsT_100 P W _) nn100 rfl rfl ?_
      refine r_iload_n 104 3 dX15_sentBit_103 rfl rfl rfl ?_
      refine r_iald 105 dX15_sentBit_104 (fun _ _ _ => dsT_230 P W _) (fun _ _ => nn230) rfl ?_
      refine r_iload 107 4 dX15_sentBit_105 rfl rfl ?_
      refine r_iconst 108 2 dX15_sentBit_107 rfl rfl ?_
      refine r_idiv 109 dX15_sentBit_108 rfl ?_
      refine r_iadd 110 dX15_sentBit_109 rfl ?_
      refine r_iald 111 dX15_sentBit_110 (fun _ _ _ => dsT_231 P W _) (fun _ _ => nn231) rfl ?_
      refine r_istore 113 [(5, aI (G 231 ((G 230 x3) + (x4 / 2)))), (0, aR 100), (1, aI x1), (2, aI x2), (3, aI x3), (4, aI x4)] dX15_sentBit_111 rfl rfl rfl ?_
      refine r_iload 115 5 dX15_sentBit_113 rfl rfl ?_
      refine r_iconst 116 2 dX15_sentBit_115 rfl rfl ?_
      refine r_irem 117 dX15_sentBit_116 rfl ?_
      refine r_if_ne 142 120 dX15_sentBit_117 rfl rfl ?_ ?_
      · refine r_aload_n 143 1 dX15_sentBit_142 rfl rfl rfl ?_
        refine r_aload_n 144 1 dX15_sentBit_143 rfl rfl rfl ?_
        refine r_get 147 (aR 175) dX15_sentBit_144 fkX15_133 (fun _ => dsT_100 P W _) nn100 rfl rfl ?_
        refine r_iload 149 0 dX15_sentBit_147 rfl rfl ?_
        refine r_iald 150 dX15_sentBit_149 (fun _ _ _ => dsT_175 P W _) (fun _ _ => nn175) rfl ?_
        refine r_callvI 153 (Mc := MTw_shareOf P W) (o := 100) (as := [aI (G 175 (G 231 ((G 230 x3) + (x4 / 2))))]) (st := []) dX15_sentBit_150 rfl (c_Tw_shareOf P W (G 175 (G 231 ((G 230 x3) + (x4 / 2)))) G) lkX15_815 (cmTw_shareOf P W) rfl rfl rfl (fun _ => dsT_100 P W _) nn100 rfl (Nat.le_of_ble_eq_true rfl) (Nat.le_of_ble_eq_true rfl) (fun _ => rfl) rfl (fun z3 G4 => ?_)
        refine r_aload_n 154 1 dX15_sentBit_153 rfl rfl rfl ?_
        refine r_get 157 (aR 228) dX15_sentBit_154 fkX15_253 (fun _ => dsT_100 P W _) nn100 rfl rfl ?_
        refine r_iload 159 0 dX15_sentBit_157 rfl rfl ?_
        refine r_iald 160 dX15_sentBit_159 (fun _ _ _ => dsT_228 P W _) (fun _ _ => nn228) rfl ?_
        refine r_ixor 161 dX15_sentBit_160 rfl ?_
        refine r_to [2] [(1, aI x1)] rfl ?_
        exact s_Tw_sentBit_b161 P W x1 (j_xo z3 (G4 228 (G 231 ((G 230 x3) + (x4 / 2))))) G4
      · refine r_aload_n 121 1 dX15_sentBit_120 rfl rfl rfl ?_
        refine r_aload_n 122 1 dX15_sentBit_121 rfl rfl rfl ?_
        refine r_get 125 (aR 174) dX15_sentBit_122 fkX15_130 (fun _ => dsT_100 P W _) nn100 rfl rfl ?_
        refine r_iload 127 0 dX15_sentBit_125 rfl rfl ?_
        refine r_iald 128 dX15_sentBit_127 (fun _ _ _ => dsT_174 P W _) (fun _ _ => nn174) rfl ?_
        refine r_callvI 131 (Mc := MTw_shareOf P W) (o := 100) (as := [aI (G 174 (G 231 ((G 230 x3) + (x4 / 2))))]) (st := []) dX15_sentBit_128 rfl (c_Tw_shareOf P W (G 174 (G 231 ((G 230 x3) + (x4 / 2)))) G) lkX15_815 (cmTw_shareOf P W) rfl rfl rfl (fun _ => dsT_100 P W _) nn100 rfl (Nat.le_of_ble_eq_true rfl) (Nat.le_of_ble_eq_true rfl) (fun _ => rfl) rfl (fun z5 G6 => ?_)
        refine r_aload_n 132 1 dX15_sentBit_131 rfl rfl rfl ?_
        refine r_get 135 (aR 227) dX15_sentBit_132 fkX15_250 (fun _ => dsT_100 P W _) nn100 rfl rfl ?_
        refine r_iload 137 0 dX15_sentBit_135 rfl rfl ?_
        refine r_iald 138 dX15_sentBit_137 (fun _ _ _ => dsT_227 P W _) (fun _ _ => nn227) rfl ?_
        refine r_ixor 139 dX15_sentBit_138 rfl ?_
        refine r_goto 161 dX15_sentBit_139 rfl ?_
        refine r_to [2] [(1, aI x1)] rfl ?_
        exact s_Tw_sentBit_b161 P W x1 (j_xo z5 (G6 227 (G 231 ((G 230 x3) + (x4 / 2))))) G6
  · refine r_iconst 5 0 dX15_sentBit_4 rfl rfl ?_
    refine r_istore 7 [(5, aI 0), (0, aR 100), (1, aI x1), (2, aI x2), (3, aI x3), (4, aI x4)] dX15_sentBit_5 rfl rfl rfl ?_
    refine r_iload 9 5 dX15_sentBit_7 rfl rfl ?_
    refine r_istore 11 [(6, aI x4), (5, aI 0), (0, aR 100), (1, aI x1), (2, aI x2), (3, aI x3), (4, aI x4)] dX15_sentBit_9 rfl rfl rfl ?_
    refine r_to [2, 3, 4, 1, 0] [(0, aR 100), (1, aI x1), (2, aI x2), (5, aI 0), (6, aI x4)] rfl ?_
    exact sl_Tw_sentBit_11 P W x1 x2 0 x4 G
theorem c_Tw_sentBit (P W : Int) (x1 : Int) (x2 : Int) (x3 : Int) (x4 : Int) (G : St) : MG (MTw_sentBit P W) [aR 100, aI x1, aI x2, aI x3, aI x4] G (Tw_sentBit x1 x2 x3 x4 G) := MG.of plX15 (Nat.le_of_ble_eq_true rfl) (s_Tw_sentBit P W x1 x2 x3 x4 G)
theorem s_Tw_message (P W : Int) (x1 : Int) (x2 : Int) (G : St) : SS (MTw_message P W) some 0 [(0, aR 100), (1, aI x1), (2, aI x2)] [] G (Tw_message x1 x2 G) := by
  refine r_iload_n 1 1 dX15_message_0 rfl rfl rfl ?_
  refine r_if_lt 16 4 dX15_message_1 rfl rfl ?_ ?_
  · refine r_iconst 17 (-1) dX15_message_16 rfl rfl ?_
    exact r_ireturn dX15_message_17 rfl
  · refine r_iload_n 5 1 dX15_message_4 rfl rfl rfl ?_
    refine r_aload_n 6 0 dX15_message_5 rfl rfl rfl ?_
    refine r_get 9 (aI (G 100 139)) dX15_message_6 fkX15_818 (fun _ => dsT_100 P W _) nn100 rfl rfl ?_
    refine r_icmp_ge 16 12 dX15_message_9 rfl rfl ?_ ?_
    · refine r_iconst 17 (-1) dX15_message_16 rfl rfl ?_
      exact r_ireturn dX15_message_17 rfl
    · refine r_iload_n 13 2 dX15_message_12 rfl rfl rfl ?_
      refine r_if_ge 18 16 dX15_message_13 rfl rfl ?_ ?_
      · refine r_aload_n 19 0 dX15_message_18 rfl rfl rfl ?_
        refine r_aload_n 20 0 dX15_message_19 rfl rfl rfl ?_
        refine r_get 23 (aR 242) dX15_message_20 fkX15_287 (fun _ => dsT_100 P W _) nn100 rfl rfl ?_
        refine r_iload_n 24 1 dX15_message_23 rfl rfl rfl ?_
        refine r_iald 25 dX15_message_24 (fun _ _ _ => dsT_242 P W _) (fun _ _ => nn242) rfl ?_
        refine r_aload_n 26 0 dX15_message_25 rfl rfl rfl ?_
        refine r_get 29 (aR 244) dX15_message_26 fkX15_293 (fun _ => dsT_100 P W _) nn100 rfl rfl ?_
        refine r_iload_n 30 1 dX15_message_29 rfl rfl rfl ?_
        refine r_iald 31 dX15_message_30 (fun _ _ _ => dsT_244 P W _) (fun _ _ => nn244) rfl ?_
        refine r_callvI 34 (Mc := MTw_lengthOf P W) (o := 100) (as := [aI (G 242 x1), aI (G 244 x1)]) (st := []) dX15_message_31 rfl (c_Tw_lengthOf P W (G 242 x1) (G 244 x1) G) lkX15_827 (cmTw_lengthOf P W) rfl rfl rfl (fun _ => dsT_100 P W _) nn100 rfl (Nat.le_of_ble_eq_true rfl) (Nat.le_of_ble_eq_true rfl) (fun _ => rfl) rfl (fun z1 G2 => ?_)
        refine r_istore_n 35 [(3, aI z1), (0, aR 100), (1, aI x1), (2, aI x2)] dX15_message_34 rfl rfl rfl rfl ?_
        refine r_iload_n 36 3 dX15_message_35 rfl rfl rfl ?_
        refine r_iconst 37 4 dX15_message_36 rfl rfl ?_
        refine r_icmp_ge 83 40 dX15_message_37 rfl rfl ?_ ?_
        · refine r_iload_n 84 3 dX15_message_83 rfl rfl rfl ?_
          refine r_iconst 85 4 dX15_message_84 rfl rfl ?_
          refine r_isub 86 dX15_message_85 rfl ?_
          refine r_iload_n 87 0 dX15_message_86 rfl rfl rfl ?_
          refine r_icmp_ge 118 90 dX15_message_87 rfl rfl ?_ ?_
          · refine r_iconst 119 (-1) dX15_message_118 rfl rfl ?_
            exact r_ireturn dX15_message_119 rfl
          · refine r_aload_n 91 1 dX15_message_90 rfl rfl rfl ?_
            refine r_aload_n 92 1 dX15_message_91 rfl rfl rfl ?_
            refine r_get 95 (aR 242) dX15_message_92 fkX15_287 (fun _ => dsT_100 P W _) nn100 rfl rfl ?_
            refine r_iload_n 96 2 dX15_message_95 rfl rfl rfl ?_
            refine r_iald 97 dX15_message_96 (fun _ _ _ => dsT_242 P W _) (fun _ _ => nn242) rfl ?_
            refine r_aload_n 98 1 dX15_message_97 rfl rfl rfl ?_
            refine r_get 101 (aR 243) dX15_message_98 fkX15_290 (fun _ => dsT_100 P W _) nn100 rfl rfl ?_
            refine r_iload_n 102 2 dX15_message_101 rfl rfl rfl ?_
            refine r_iald 103 dX15_message_102 (fun _ _ _ => dsT_243 P W _) (fun _ _ => nn243) rfl ?_
            refine r_aload_n 104 1 dX15_message_103 rfl rfl rfl ?_
            refine r_get 107 (aR 244) dX15_message_104 fkX15_293 (fun _ => dsT_100 P W _) nn100 rfl rfl ?_
            refine r_iload_n 108 2 dX15_message_107 rfl rfl rfl ?_
            refine r_iald 109 dX15_message_108 (fun _ _ _ => dsT_244 P W _) (fun _ _ => nn244) rfl ?_
            refine r_iload_n 110 3 dX15_message_109 rfl rfl rfl ?_
            refine r_iconst 111 4 dX15_message_110 rfl rfl ?_
            refine r_isub 112 dX15_message_111 rfl ?_
            refine r_callvI 115 (Mc := MTw_sentBit P W) (o := 100) (as := [aI (G2 242 x1), aI (G2 243 x1), aI (G2 244 x1), aI (x2 - 4)]) (st := []) dX15_message_112 rfl (c_Tw_sentBit P W (G2 242 x1) (G2 243 x1) (G2 244 x1) (x2 - 4) G2) lkX15_860 (cmTw_sentBit P W) rfl rfl rfl (fun _ => dsT_100 P W _) nn100 rfl (Nat.le_of_ble_eq_true rfl) (Nat.le_of_ble_eq_true rfl) (fun _ => rfl) rfl (fun z3 G4 => ?_)
            refine r_goto 119 dX15_message_115 rfl ?_
            exact r_ireturn dX15_message_119 rfl
        · refine r_iload_n 41 3 dX15_message_40 rfl rfl rfl ?_
          refine r_if_ne 53 44 dX15_message_41 rfl rfl ?_ ?_
          · refine r_iload_n 54 3 dX15_message_53 rfl rfl rfl ?_
            refine r_iconst 55 1 dX15_message_54 rfl rfl ?_
            refine r_icmp_ne 67 58 dX15_message_55 rfl rfl ?_ ?_
            · refine r_iload_n 68 3 dX15_message_67 rfl rfl rfl ?_
              refine r_iconst 69 2 dX15_message_68 rfl rfl ?_
              refine r_icmp_ne 81 72 dX15_message_69 rfl rfl ?_ ?_
              · refine r_iload_n 82 0 dX15_message_81 rfl rfl rfl ?_
                exact r_ireturn dX15_message_82 rfl
              · refine r_aload_n 73 1 dX15_message_72 rfl rfl rfl ?_
                refine r_get 76 (aR 244) dX15_message_73 fkX15_293 (fun _ => dsT_100 P W _) nn100 rfl rfl ?_
                refine r_iload_n 77 2 dX15_message_76 rfl rfl rfl ?_
                refine r_iald 78 dX15_message_77 (fun _ _ _ => dsT_244 P W _) (fun _ _ => nn244) rfl ?_
                refine r_goto 82 dX15_message_78 rfl ?_
                exact r_ireturn dX15_message_82 rfl
            · refine r_aload_n 59 1 dX15_message_58 rfl rfl rfl ?_
              refine r_get 62 (aR 243) dX15_message_59 fkX15_290 (fun _ => dsT_100 P W _) nn100 rfl rfl ?_
              refine r_iload_n 63 2 dX15_message_62 rfl rfl rfl ?_
              refine r_iald 64 dX15_message_63 (fun _ _ _ => dsT_243 P W _) (fun _ _ => nn243) rfl ?_
              refine r_goto 82 dX15_message_64 rfl ?_
              exact r_ireturn dX15_message_82 rfl
          · refine r_aload_n 45 1 dX15_message_44 rfl rfl rfl ?_
            refine r_get 48 (aR 242) dX15_message_45 fkX15_287 (fun _ => dsT_100 P W _) nn100 rfl rfl ?_
            refine r_iload_n 49 2 dX15_message_48 rfl rfl rfl ?_
            refine r_iald 50 dX15_message_49 (fun _ _ _ => dsT_242 P W _) (fun _ _ => nn242) rfl ?_
            refine r_goto 82 dX15_message_50 rfl ?_
            exact r_ireturn dX15_message_82 rfl
      · refine r_iconst 17 (-1) dX15_message_16 rfl rfl ?_
        exact r_ireturn dX15_message_17 rfl
theorem c_Tw_message (P W : Int) (x1 : Int) (x2 : Int) (G : St) : MG (MTw_message P W) [aR 100, aI x1, aI x2] G (Tw_message x1 x2 G) := MG.of plX15 (Nat.le_of_ble_eq_true rfl) (s_Tw_message P W x1 x2 G)
theorem s_Tw_takeMessage_b308 (P W : Int) (G : St) : SS (MTw_takeMessage P W) some 308 [(0, aR 100)] [] G (Tw_takeMessage_b308 P W G) := by
  refine r_aload_n 309 0 dX15_takeMessage_308 rfl rfl rfl ?_
  refine r_get 312 (aI (G 100 131)) dX15_takeMessage_309 fkX15_821 (fun _ => dsT_100 P W _) nn100 rfl rfl ?_
  exact r_ireturn dX15_takeMessage_312 rfl
theorem s_Tw_takeMessage_s226 (P W : Int) (x3 : Int) (X226 : St → Option (Int × St)) (hX226 : ∀ s, So (MTw_takeMessage P W) 226 [(0, aR 100), (3, aI x3)] [] s (X226 s)) (G : St) : SS (MTw_takeMessage P W) (lk X226 some) 226 [(0, aR 100), (3, aI x3)] [] G (Tw_takeMessage_s226 P W x3 G) := by
  refine r_aload_n 227 0 dX15_takeMessage_226 rfl rfl rfl ?_
  refine r_get 230 (aR 233) dX15_takeMessage_227 fkX15_265 (fun _ => dsT_100 P W _) nn100 rfl rfl ?_
  refine r_iload_n 231 1 dX15_takeMessage_230 rfl rfl rfl ?_
  refine r_iald 232 dX15_takeMessage_231 (fun _ _ _ => dsT_233 P W _) (fun _ _ => nn233) rfl ?_
  refine r_aload_n 233 0 dX15_takeMessage_232 rfl rfl rfl ?_
  refine r_get 236 (aI (G 100 68)) dX15_takeMessage_233 fkX15_633 (fun _ => dsT_100 P W _) nn100 rfl rfl ?_
  refine r_iconst 237 1 dX15_takeMessage_236 rfl rfl ?_
  refine r_iadd 238 dX15_takeMessage_237 rfl ?_
  refine r_icmp_gt 308 241 dX15_takeMessage_238 rfl rfl ?_ ?_
  · refine SS.ex ?_
    refine r_to [0] [(0, aR 100)] rfl ?_
    exact s_Tw_takeMessage_b308 P W G
  · refine r_aload_n 242 0 dX15_takeMessage_241 rfl rfl rfl ?_
    refine r_get 245 (aR 234) dX15_takeMessage_242 fkX15_268 (fun _ => dsT_100 P W _) nn100 rfl rfl ?_
    refine r_iload_n 246 1 dX15_takeMessage_245 rfl rfl rfl ?_
    refine r_iald 247 dX15_takeMessage_246 (fun _ _ _ => dsT_234 P W _) (fun _ _ => nn234) rfl ?_
    refine r_aload_n 248 0 dX15_takeMessage_247 rfl rfl rfl ?_
    refine r_get 251 (aI P) dX15_takeMessage_248 fkX15_299 (fun _ => dsT_100 P W _) nn100 rfl rfl ?_
    refine r_iconst 252 1 dX15_takeMessage_251 rfl rfl ?_
    refine r_isub 253 dX15_takeMessage_252 rfl ?_
    refine r_icmp_ne 308 256 dX15_takeMessage_253 rfl rfl ?_ ?_
    · refine SS.ex ?_
      refine r_to [0] [(0, aR 100)] rfl ?_
      exact s_Tw_takeMessage_b308 P W G
    · refine r_aload_n 257 0 dX15_takeMessage_256 rfl rfl rfl ?_
      refine r_get 260 (aR 233) dX15_takeMessage_257 fkX15_265 (fun _ => dsT_100 P W _) nn100 rfl rfl ?_
      refine r_iload_n 261 1 dX15_takeMessage_260 rfl rfl rfl ?_
      refine r_dup2 262 dX15_takeMessage_261 rfl rfl rfl ?_
      refine r_iald 263 dX15_takeMessage_262 (fun _ _ _ => dsT_233 P W _) (fun _ _ => nn233) rfl ?_
      refine r_iconst 264 1 dX15_takeMessage_263 rfl rfl ?_
      refine r_iadd 265 dX15_takeMessage_264 rfl ?_
      refine r_iast 266 dX15_takeMessage_265 (fun _ _ _ => dsT_233 P W _) (fun _ _ => nn233) rfl ?_
      refine ss_tk (fun G12 => ?_)
      refine r_aload_n 267 0 dX15_takeMessage_266 rfl rfl rfl ?_
      refine r_get 270 (aR 234) dX15_takeMessage_267 fkX15_268 (fun _ => dsT_100 P W _) nn100 rfl rfl ?_
      refine r_iload_n 271 1 dX15_takeMessage_270 rfl rfl rfl ?_
      refine r_aload_n 272 0 dX15_takeMessage_271 rfl rfl rfl ?_
      refine r_get 275 (aR 235) dX15_takeMessage_272 fkX15_271 (fun _ => dsT_100 P W _) nn100 rfl rfl ?_
      refine r_iload_n 276 1 dX15_takeMessage_275 rfl rfl rfl ?_
      refine r_iald 277 dX15_takeMessage_276 (fun _ _ _ => dsT_235 P W _) (fun _ _ => nn235) rfl ?_
      refine r_iast 278 dX15_takeMessage_277 (fun _ _ _ => dsT_234 P W _) (fun _ _ => nn234) rfl ?_
      refine ss_tk (fun G13 => ?_)
      refine r_aload_n 279 0 dX15_takeMessage_278 rfl rfl rfl ?_
      refine r_get 282 (aR 235) dX15_takeMessage_279 fkX15_271 (fun _ => dsT_100 P W _) nn100 rfl rfl ?_
      refine r_iload_n 283 1 dX15_takeMessage_282 rfl rfl rfl ?_
      refine r_iconst 284 0 dX15_takeMessage_283 rfl rfl ?_
      refine r_iast 285 dX15_takeMessage_284 (fun _ _ _ => dsT_235 P W _) (fun _ _ => nn235) rfl ?_
      refine ss_tk (fun G14 => ?_)
      refine r_aload_n 286 0 dX15_takeMessage_285 rfl rfl rfl ?_
      refine r_get 289 (aR 233) dX15_takeMessage_286 fkX15_265 (fun _ => dsT_100 P W _) nn100 rfl rfl ?_
      refine r_iload_n 290 1 dX15_takeMessage_289 rfl rfl rfl ?_
      refine r_iald 291 dX15_takeMessage_290 (fun _ _ _ => dsT_233 P W _) (fun _ _ => nn233) rfl ?_
      refine r_aload_n 292 0 dX15_takeMessage_291 rfl rfl rfl ?_
      refine r_get 295 (aI (G14 100 68)) dX15_takeMessage_292 fkX15_633 (fun _ => dsT_100 P W _) nn100 rfl rfl ?_
      refine r_iconst 296 1 dX15_takeMessage_295 rfl rfl ?_
      refine r_iadd 297 dX15_takeMessage_296 rfl ?_
      refine r_icmp_gt 226 300 dX15_takeMessage_297 rfl rfl ?_ ?_
      · exact SS.back (hX226 (G14))
      · refine r_aload_n 301 0 dX15_takeMessage_300 rfl rfl rfl ?_
        refine r_iload_n 302 1 dX15_takeMessage_301 rfl rfl rfl ?_
        refine r_callvV 305 (Mc := MTw_sendRound P W) (o := 100) (as := [aI x3]) (st := []) dX15_takeMessage_302 rfl (c_Tw_sendRound P W x3 G14) lkX15_833 (cmTw_sendRound P W) rfl rfl rfl (fun _ => dsT_100 P W _) nn100 rfl (Nat.le_of_ble_eq_true rfl) (Nat.le_of_ble_eq_true rfl) (fun _ => rfl) rfl (fun z15 G16 => ?_)
        refine r_goto 226 dX15_takeMessage_305 rfl ?_
        exact SS.back (hX226 (G16))
theorem sl_Tw_takeMessage_226 (P W : Int) (x3 : Int) (G : St) : SS (MTw_takeMessage P W) some 226 [(0, aR 100), (3, aI x3)] [] G (Tw_takeMessage_l226 P W x3 G) := by
  exact SS.loop (σ := St) (fun s => [(0, aR 100), (3, aI x3)]) (fun s => s) (fun s => Tw_takeMessage_s226 P W x3 s) (fun X226 hX226 s => s_Tw_takeMessage_s226 P W x3  X226 hX226 s) (G)
theorem s_Tw_takeMessage_b219 (P W : Int) (x3 : Int) (s0 : Int) (s1 : Int) (s2 : Int) (G : St) : SS (MTw_takeMessage P W) some 219 [(0, aR 100), (3, aI x3)] [aI s0, aI s1, aI s2, aR 235] G (Tw_takeMessage_b219 P W x3 s0 s1 s2 G) := by
  refine r_iadd 220 dX15_takeMessage_219 rfl ?_
  refine r_iast 221 dX15_takeMessage_220 (fun _ _ _ => dsT_235 P W _) (fun _ _ => nn235) rfl ?_
  refine ss_tk (fun G10 => ?_)
  refine r_aload_n 222 0 dX15_takeMessage_221 rfl rfl rfl ?_
  refine r_iconst 223 0 dX15_takeMessage_222 rfl rfl ?_
  refine r_putI 226 dX15_takeMessage_223 fkX15_821 (fun _ => dsT_100 P W _) nn100 rfl rfl ?_
  refine ss_tk (fun G11 => ?_)
  exact sl_Tw_takeMessage_226 P W x3 G11
theorem s_Tw_takeMessage_b194 (P W : Int) (x3 : Int) (x4 : Int) (s0 : Int) (s1 : Int) (s2 : Int) (G : St) : SS (MTw_takeMessage P W) some 194 [(0, aR 100), (3, aI x3), (4, aI x4)] [aI s0, aI s1, aI s2, aR 234] G (Tw_takeMessage_b194 P W x3 x4 s0 s1 s2 G) := by
  refine r_iadd 195 dX15_takeMessage_194 rfl ?_
  refine r_iast 196 dX15_takeMessage_195 (fun _ _ _ => dsT_234 P W _) (fun _ _ => nn234) rfl ?_
  refine ss_tk (fun G9 => ?_)
  refine r_aload_n 197 0 dX15_takeMessage_196 rfl rfl rfl ?_
  refine r_get 200 (aR 235) dX15_takeMessage_197 fkX15_271 (fun _ => dsT_100 P W _) nn100 rfl rfl ?_
  refine r_iload_n 201 1 dX15_takeMessage_200 rfl rfl rfl ?_
  refine r_dup2 202 dX15_takeMessage_201 rfl rfl rfl ?_
  refine r_iald 203 dX15_takeMessage_202 (fun _ _ _ => dsT_235 P W _) (fun _ _ => nn235) rfl ?_
  refine r_iload 205 2 dX15_takeMessage_203 rfl rfl ?_
  refine r_aload_n 206 0 dX15_takeMessage_205 rfl rfl rfl ?_
  refine r_get 209 (aR 233) dX15_takeMessage_206 fkX15_265 (fun _ => dsT_100 P W _) nn100 rfl rfl ?_
  refine r_iload_n 210 1 dX15_takeMessage_209 rfl rfl rfl ?_
  refine r_iald 211 dX15_takeMessage_210 (fun _ _ _ => dsT_233 P W _) (fun _ _ => nn233) rfl ?_
  refine SS.phi (fun VV_ => Tw_takeMessage_b219 P W x3 VV_ (G9 235 x3) x3 G9) ?_
  refine r_icmp_ne 218 214 dX15_takeMessage_211 rfl rfl ?_ ?_
  · refine r_iconst 219 1 dX15_takeMessage_218 rfl rfl ?_
    refine r_to [0, 1] [(0, aR 100), (3, aI x3)] rfl ?_
    exact s_Tw_takeMessage_b219 P W x3 1 (G9 235 x3) x3 G9
  · refine r_iconst 215 0 dX15_takeMessage_214 rfl rfl ?_
    refine r_goto 219 dX15_takeMessage_215 rfl ?_
    refine r_to [0, 1] [(0, aR 100), (3, aI x3)] rfl ?_
    exact s_Tw_takeMessage_b219 P W x3 0 (G9 235 x3) x3 G9
theorem s_Tw_takeMessage_s35 (P W : Int) (x2 : Int) (x3 : Int) (x4 : Int) (X35 : Int × St → Option (Int × St)) (hX35 : ∀ s, So (MTw_takeMessage P W) 35 [(0, aR 100), (2, aI x2), (3, aI x3), (4, aI x4), (5, aI (s.1))] [] s.2 (X35 s)) (x5 : Int) (G : St) : SS (MTw_takeMessage P W) (lk X35 some) 35 [(0, aR 100), (2, aI x2), (3, aI x3), (4, aI x4), (5, aI x5)] [] G (Tw_takeMessage_s35 P W x2 x3 x4 x5 G) := by
  refine r_iload 37 4 dX15_takeMessage_35 rfl rfl ?_
  refine r_aload_n 38 0 dX15_takeMessage_37 rfl rfl rfl ?_
  refine r_get 41 (aI (G 100 139)) dX15_takeMessage_38 fkX15_818 (fun _ => dsT_100 P W _) nn100 rfl rfl ?_
  refine r_icmp_ge 98 44 dX15_takeMessage_41 rfl rfl ?_ ?_
  · refine SS.ex ?_
    refine r_aload_n 99 0 dX15_takeMessage_98 rfl rfl rfl ?_
    refine r_get 102 (aR 238) dX15_takeMessage_99 fkX15_281 (fun _ => dsT_100 P W _) nn100 rfl rfl ?_
    refine r_sipush 105 30060 dX15_takeMessage_102 rfl rfl ?_
    refine r_iload_n 106 2 dX15_takeMessage_105 rfl rfl rfl ?_
    refine r_imul 107 dX15_takeMessage_106 rfl ?_
    refine r_aload_n 108 0 dX15_takeMessage_107 rfl rfl rfl ?_
    refine r_get 111 (aR 236) dX15_takeMessage_108 fkX15_274 (fun _ => dsT_100 P W _) nn100 rfl rfl ?_
    refine r_iload_n 112 2 dX15_takeMessage_111 rfl rfl rfl ?_
    refine r_iald 113 dX15_takeMessage_112 (fun _ _ _ => dsT_236 P W _) (fun _ _ => nn236) rfl ?_
    refine r_iadd 114 dX15_takeMessage_113 rfl ?_
    refine r_iload_n 115 1 dX15_takeMessage_114 rfl rfl rfl ?_
    refine r_iast 116 dX15_takeMessage_115 (fun _ _ _ => dsT_238 P W _) (fun _ _ => nn238) rfl ?_
    refine ss_tk (fun G2 => ?_)
    refine r_aload_n 117 0 dX15_takeMessage_116 rfl rfl rfl ?_
    refine r_get 120 (aR 239) dX15_takeMessage_117 fkX15_284 (fun _ => dsT_100 P W _) nn100 rfl rfl ?_
    refine r_sipush 123 30060 dX15_takeMessage_120 rfl rfl ?_
    refine r_iload_n 124 2 dX15_takeMessage_123 rfl rfl rfl ?_
    refine r_imul 125 dX15_takeMessage_124 rfl ?_
    refine r_aload_n 126 0 dX15_takeMessage_125 rfl rfl rfl ?_
    refine r_get 129 (aR 236) dX15_takeMessage_126 fkX15_274 (fun _ => dsT_100 P W _) nn100 rfl rfl ?_
    refine r_iload_n 130 2 dX15_takeMessage_129 rfl rfl rfl ?_
    refine r_iald 131 dX15_takeMessage_130 (fun _ _ _ => dsT_236 P W _) (fun _ _ => nn236) rfl ?_
    refine r_iadd 132 dX15_takeMessage_131 rfl ?_
    refine r_iload 134 3 dX15_takeMessage_132 rfl rfl ?_
    refine r_iast 135 dX15_takeMessage_134 (fun _ _ _ => dsT_239 P W _) (fun _ _ => nn239) rfl ?_
    refine ss_tk (fun G3 => ?_)
    refine r_aload_n 136 0 dX15_takeMessage_135 rfl rfl rfl ?_
    refine r_get 139 (aR 236) dX15_takeMessage_136 fkX15_274 (fun _ => dsT_100 P W _) nn100 rfl rfl ?_
    refine r_iload_n 140 2 dX15_takeMessage_139 rfl rfl rfl ?_
    refine r_dup2 141 dX15_takeMessage_140 rfl rfl rfl ?_
    refine r_iald 142 dX15_takeMessage_141 (fun _ _ _ => dsT_236 P W _) (fun _ _ => nn236) rfl ?_
    refine r_iconst 143 1 dX15_takeMessage_142 rfl rfl ?_
    refine r_iadd 144 dX15_takeMessage_143 rfl ?_
    refine r_iast 145 dX15_takeMessage_144 (fun _ _ _ => dsT_236 P W _) (fun _ _ => nn236) rfl ?_
    refine ss_tk (fun G4 => ?_)
    refine r_aload_n 146 0 dX15_takeMessage_145 rfl rfl rfl ?_
    refine r_get 149 (aR 237) dX15_takeMessage_146 fkX15_277 (fun _ => dsT_100 P W _) nn100 rfl rfl ?_
    refine r_iload_n 150 2 dX15_takeMessage_149 rfl rfl rfl ?_
    refine r_dup2 151 dX15_takeMessage_150 rfl rfl rfl ?_
    refine r_iald 152 dX15_takeMessage_151 (fun _ _ _ => dsT_237 P W _) (fun _ _ => nn237) rfl ?_
    refine r_aload_n 153 0 dX15_takeMessage_152 rfl rfl rfl ?_
    refine r_iload_n 154 1 dX15_takeMessage_153 rfl rfl rfl ?_
    refine r_iload 156 3 dX15_takeMessage_154 rfl rfl ?_
    refine r_callvI 159 (Mc := MTw_lengthOf P W) (o := 100) (as := [aI x2, aI x4]) (st := [aI (G4 237 x3), aI x3, aR 237]) dX15_takeMessage_156 rfl (c_Tw_lengthOf P W x2 x4 G4) lkX15_827 (cmTw_lengthOf P W) rfl rfl rfl (fun _ => dsT_100 P W _) nn100 rfl (Nat.le_of_ble_eq_true rfl) (Nat.le_of_ble_eq_true rfl) (fun _ => rfl) rfl (fun z5 G6 => ?_)
    refine r_iadd 160 dX15_takeMessage_159 rfl ?_
    refine r_iast 161 dX15_takeMessage_160 (fun _ _ _ => dsT_237 P W _) (fun _ _ => nn237) rfl ?_
    refine ss_tk (fun G7 => ?_)
    refine r_aload_n 162 0 dX15_takeMessage_161 rfl rfl rfl ?_
    refine r_dup 163 dX15_takeMessage_162 rfl rfl ?_
    refine r_get 166 (aI (G7 100 140)) dX15_takeMessage_163 fkX15_830 (fun _ => dsT_100 P W _) nn100 rfl rfl ?_
    refine r_iconst 167 1 dX15_takeMessage_166 rfl rfl ?_
    refine r_iadd 168 dX15_takeMessage_167 rfl ?_
    refine r_putI 171 dX15_takeMessage_168 fkX15_830 (fun _ => dsT_100 P W _) nn100 rfl rfl ?_
    refine ss_tk (fun G8 => ?_)
    refine r_aload_n 172 0 dX15_takeMessage_171 rfl rfl rfl ?_
    refine r_get 175 (aR 234) dX15_takeMessage_172 fkX15_268 (fun _ => dsT_100 P W _) nn100 rfl rfl ?_
    refine r_iload_n 176 2 dX15_takeMessage_175 rfl rfl rfl ?_
    refine r_dup2 177 dX15_takeMessage_176 rfl rfl rfl ?_
    refine r_iald 178 dX15_takeMessage_177 (fun _ _ _ => dsT_234 P W _) (fun _ _ => nn234) rfl ?_
    refine r_iload 180 3 dX15_takeMessage_178 rfl rfl ?_
    refine r_aload_n 181 0 dX15_takeMessage_180 rfl rfl rfl ?_
    refine r_get 184 (aR 233) dX15_takeMessage_181 fkX15_265 (fun _ => dsT_100 P W _) nn100 rfl rfl ?_
    refine r_iload_n 185 2 dX15_takeMessage_184 rfl rfl rfl ?_
    refine r_iald 186 dX15_takeMessage_185 (fun _ _ _ => dsT_233 P W _) (fun _ _ => nn233) rfl ?_
    refine SS.phi (fun VV_ => Tw_takeMessage_b194 P W x3 x4 VV_ (G8 234 x3) x3 G8) ?_
    refine r_icmp_ne 193 189 dX15_takeMessage_186 rfl rfl ?_ ?_
    · refine r_iconst 194 0 dX15_takeMessage_193 rfl rfl ?_
      refine r_to [0, 2, 3] [(0, aR 100), (3, aI x3), (4, aI x4)] rfl ?_
      exact s_Tw_takeMessage_b194 P W x3 x4 0 (G8 234 x3) x3 G8
    · refine r_iconst 190 1 dX15_takeMessage_189 rfl rfl ?_
      refine r_goto 194 dX15_takeMessage_190 rfl ?_
      refine r_to [0, 2, 3] [(0, aR 100), (3, aI x3), (4, aI x4)] rfl ?_
      exact s_Tw_takeMessage_b194 P W x3 x4 1 (G8 234 x3) x3 G8
  · refine r_aload_n 45 0 dX15_takeMessage_44 rfl rfl rfl ?_
    refine r_get 48 (aR 242) dX15_takeMessage_45 fkX15_287 (fun _ => dsT_100 P W _) nn100 rfl rfl ?_
    refine r_iload 50 4 dX15_takeMessage_48 rfl rfl ?_
    refine r_aload_n 51 0 dX15_takeMessage_50 rfl rfl rfl ?_
    refine r_get 54 (aR 242) dX15_takeMessage_51 fkX15_287 (fun _ => dsT_100 P W _) nn100 rfl rfl ?_
    refine r_iload 56 4 dX15_takeMessage_54 rfl rfl ?_
    refine r_iconst 57 1 dX15_takeMessage_56 rfl rfl ?_
    refine r_iadd 58 dX15_takeMessage_57 rfl ?_
    refine r_iald 59 dX15_takeMessage_58 (fun _ _ _ => dsT_242 P W _) (fun _ _ => nn242) rfl ?_
    refine r_iast 60 dX15_takeMessage_59 (fun _ _ _ => dsT_242 P W _) (fun _ _ => nn242) rfl ?_
    refine ss_tk (fun G17 => ?_)
    refine r_aload_n 61 0 dX15_takeMessage_60 rfl rfl rfl ?_
    refine r_get 64 (aR 243) dX15_takeMessage_61 fkX15_290 (fun _ => dsT_100 P W _) nn100 rfl rfl ?_
    refine r_iload 66 4 dX15_takeMessage_64 rfl rfl ?_
    refine r_aload_n 67 0 dX15_takeMessage_66 rfl rfl rfl ?_
    refine r_get 70 (aR 243) dX15_takeMessage_67 fkX15_290 (fun _ => dsT_100 P W _) nn100 rfl rfl ?_
    refine r_iload 72 4 dX15_takeMessage_70 rfl rfl ?_
    refine r_iconst 73 1 dX15_takeMessage_72 rfl rfl ?_
    refine r_iadd 74 dX15_takeMessage_73 rfl ?_
    refine r_iald 75 dX15_takeMessage_74 (fun _ _ _ => dsT_243 P W _) (fun _ _ => nn243) rfl ?_
    refine r_iast 76 dX15_takeMessage_75 (fun _ _ _ => dsT_243 P W _) (fun _ _ => nn243) rfl ?_
    refine ss_tk (fun G18 => ?_)
    refine r_aload_n 77 0 dX15_takeMessage_76 rfl rfl rfl ?_
    refine r_get 80 (aR 244) dX15_takeMessage_77 fkX15_293 (fun _ => dsT_100 P W _) nn100 rfl rfl ?_
    refine r_iload 82 4 dX15_takeMessage_80 rfl rfl ?_
    refine r_aload_n 83 0 dX15_takeMessage_82 rfl rfl rfl ?_
    refine r_get 86 (aR 244) dX15_takeMessage_83 fkX15_293 (fun _ => dsT_100 P W _) nn100 rfl rfl ?_
    refine r_iload 88 4 dX15_takeMessage_86 rfl rfl ?_
    refine r_iconst 89 1 dX15_takeMessage_88 rfl rfl ?_
    refine r_iadd 90 dX15_takeMessage_89 rfl ?_
    refine r_iald 91 dX15_takeMessage_90 (fun _ _ _ => dsT_244 P W _) (fun _ _ => nn244) rfl ?_
    refine r_iast 92 dX15_takeMessage_91 (fun _ _ _ => dsT_244 P W _) (fun _ _ => nn244) rfl ?_
    refine ss_tk (fun G19 => ?_)
    refine r_iinc 95 [(5, aI (x5 + 1)), (0, aR 100), (2, aI x2), (3, aI x3), (4, aI x4)] 4 dX15_takeMessage_92 rfl rfl rfl rfl ?_
    refine r_goto 35 dX15_takeMessage_95 rfl ?_
    refine r_to [1, 2, 3, 4, 0] [(0, aR 100), (2, aI x2), (3, aI x3), (4, aI x4), (5, aI (x5 + 1))] rfl ?_
    exact SS.back (hX35 (x5 + 1, G19))
theorem sl_Tw_takeMessage_35 (P W : Int) (x2 : Int) (x3 : Int) (x4 : Int) (x5 : Int) (G : St) : SS (MTw_takeMessage P W) some 35 [(0, aR 100), (2, aI x2), (3, aI x3), (4, aI x4), (5, aI x5)] [] G (Tw_takeMessage_l35 P W x2 x3 x4 x5 G) := by
  exact SS.loop (σ := Int × St) (fun s => [(0, aR 100), (2, aI x2), (3, aI x3), (4, aI x4), (5, aI (s.1))]) (fun s => s.2) (fun s => Tw_takeMessage_s35 P W x2 x3 x4 s.1 s.2) (fun X35 hX35 s => s_Tw_takeMessage_s35 P W x2 x3 x4  X35 hX35 s.1 s.2) (x5, G)
theorem s_Tw_takeMessage (P W : Int) (x1 : Int) (G : St) : SS (MTw_takeMessage P W) some 0 [(0, aR 100), (1, aI x1)] [] G (Tw_takeMessage P W x1 G) := by
  refine r_aload_n 1 0 dX15_takeMessage_0 rfl rfl rfl ?_
  refine r_get 4 (aR 242) dX15_takeMessage_1 fkX15_287 (fun _ => dsT_100 P W _) nn100 rfl rfl ?_
  refine r_iload_n 5 1 dX15_takeMessage_4 rfl rfl rfl ?_
  refine r_iald 6 dX15_takeMessage_5 (fun _ _ _ => dsT_242 P W _) (fun _ _ => nn242) rfl ?_
  refine r_istore_n 7 [(2, aI (G 242 x1)), (0, aR 100), (1, aI x1)] dX15_takeMessage_6 rfl rfl rfl rfl ?_
  refine r_aload_n 8 1 dX15_takeMessage_7 rfl rfl rfl ?_
  refine r_get 11 (aR 243) dX15_takeMessage_8 fkX15_290 (fun _ => dsT_100 P W _) nn100 rfl rfl ?_
  refine r_iload_n 12 2 dX15_takeMessage_11 rfl rfl rfl ?_
  refine r_iald 13 dX15_takeMessage_12 (fun _ _ _ => dsT_243 P W _) (fun _ _ => nn243) rfl ?_
  refine r_istore_n 14 [(3, aI (G 243 x1)), (2, aI (G 242 x1)), (0, aR 100), (1, aI x1)] dX15_takeMessage_13 rfl rfl rfl rfl ?_
  refine r_aload_n 15 2 dX15_takeMessage_14 rfl rfl rfl ?_
  refine r_get 18 (aR 244) dX15_takeMessage_15 fkX15_293 (fun _ => dsT_100 P W _) nn100 rfl rfl ?_
  refine r_iload_n 19 3 dX15_takeMessage_18 rfl rfl rfl ?_
  refine r_iald 20 dX15_takeMessage_19 (fun _ _ _ => dsT_244 P W _) (fun _ _ => nn244) rfl ?_
  refine r_istore 22 [(4, aI (G 244 x1)), (3, aI (G 243 x1)), (2, aI (G 242 x1)), (0, aR 100), (1, aI x1)] dX15_takeMessage_20 rfl rfl rfl ?_
  refine r_aload_n 23 3 dX15_takeMessage_22 rfl rfl rfl ?_
  refine r_dup 24 dX15_takeMessage_23 rfl rfl ?_
  refine r_get 27 (aI (G 100 139)) dX15_takeMessage_24 fkX15_818 (fun _ => dsT_100 P W _) nn100 rfl rfl ?_
  refine r_iconst 28 1 dX15_takeMessage_27 rfl rfl ?_
  refine r_isub 29 dX15_takeMessage_28 rfl ?_
  refine r_putI 32 dX15_takeMessage_29 fkX15_818 (fun _ => dsT_100 P W _) nn100 rfl rfl ?_
  refine ss_tk (fun G1 => ?_)
  refine r_iload_n 33 4 dX15_takeMessage_32 rfl rfl rfl ?_
  refine r_istore 35 [(5, aI x1), (4, aI (G 244 x1)), (3, aI (G 243 x1)), (2, aI (G 242 x1)), (0, aR 100), (1, aI x1)] dX15_takeMessage_33 rfl rfl rfl ?_
  refine r_to [4, 3, 2, 1, 0] [(0, aR 100), (2, aI (G 242 x1)), (3, aI (G 243 x1)), (4, aI (G 244 x1)), (5, aI x1)] rfl ?_
  exact sl_Tw_takeMessage_35 P W (G 242 x1) (G 243 x1) (G 244 x1) x1 G1
theorem c_Tw_takeMessage (P W : Int) (x1 : Int) (G : St) : MG (MTw_takeMessage P W) [aR 100, aI x1] G (Tw_takeMessage P W x1 G) := MG.of plX15 (Nat.le_of_ble_eq_true rfl) (s_Tw_takeMessage P W x1 G)
theorem s_Tw_deliver (P W : Int) (x1 : Int) (G : St) : SS (MTw_deliver P W) some 0 [(0, aR 100), (1, aI x1)] [] G (Tw_deliver P W x1 G) := by
  refine r_iload_n 1 1 dX15_deliver_0 rfl rfl rfl ?_
  refine r_if_lt 12 4 dX15_deliver_1 rfl rfl ?_ ?_
  · refine r_iconst 13 (-1) dX15_deliver_12 rfl rfl ?_
    refine r_goto 21 dX15_deliver_13 rfl ?_
    exact r_ireturn dX15_deliver_21 rfl
  · refine r_iload_n 5 1 dX15_deliver_4 rfl rfl rfl ?_
    refine r_aload_n 6 0 dX15_deliver_5 rfl rfl rfl ?_
    refine r_get 9 (aI (G 100 139)) dX15_deliver_6 fkX15_818 (fun _ => dsT_100 P W _) nn100 rfl rfl ?_
    refine r_icmp_lt 16 12 dX15_deliver_9 rfl rfl ?_ ?_
    · refine r_aload_n 17 0 dX15_deliver_16 rfl rfl rfl ?_
      refine r_iload_n 18 1 dX15_deliver_17 rfl rfl rfl ?_
      refine r_callvI 21 (Mc := MTw_takeMessage P W) (o := 100) (as := [aI x1]) (st := []) dX15_deliver_18 rfl (c_Tw_takeMessage P W x1 G) lkX15_863 (cmTw_takeMessage P W) rfl rfl rfl (fun _ => dsT_100 P W _) nn100 rfl (Nat.le_of_ble_eq_true rfl) (Nat.le_of_ble_eq_true rfl) (fun _ => rfl) rfl (fun z1 G2 => ?_)
      exact r_ireturn dX15_deliver_21 rfl
    · refine r_iconst 13 (-1) dX15_deliver_12 rfl rfl ?_
      refine r_goto 21 dX15_deliver_13 rfl ?_
      exact r_ireturn dX15_deliver_21 rfl
theorem c_Tw_deliver (P W : Int) (x1 : Int) (G : St) : MG (MTw_deliver P W) [aR 100, aI x1] G (Tw_deliver P W x1 G) := MG.of plX15 (Nat.le_of_ble_eq_true rfl) (s_Tw_deliver P W x1 G)
theorem s_Tw_rush_b59 (P W : Int) (x3 : Int) (G : St) : SS (MTw_rush P W) some 59 [(3, aI x3)] [] G (Tw_rush_b59 P W x3 G) := by
  refine r_iload_n 60 0 dX15_rush_59 rfl rfl rfl ?_
  exact r_ireturn dX15_rush_60 rfl
theorem s_Tw_rush_b54 (P W : Int) (x1 : Int) (x2 : Int) (X19 : Int × St → Option (Int × St)) (hX19 : ∀ s, So (MTw_rush P W) 19 [(0, aR 100), (1, aI x1), (2, aI x2), (3, aI (s.1))] [] s.2 (X19 s)) (s0 : Int) (s1 : Int) (G : St) : SS (MTw_rush P W) (lk X19 some) 54 [(0, aR 100), (1, aI x1), (2, aI x2)] [aI s0, aI s1] G (Tw_rush_b54 P W x1 x2 s0 s1 G) := by
  refine r_iadd 55 dX15_rush_54 rfl ?_
  refine r_istore_n 56 [(3, aI (s1 + s0)), (0, aR 100), (1, aI x1), (2, aI x2)] dX15_rush_55 rfl rfl rfl rfl ?_
  refine r_goto 19 dX15_rush_56 rfl ?_
  refine r_to [1, 2, 3, 0] [(0, aR 100), (1, aI x1), (2, aI x2), (3, aI (s1 + s0))] rfl ?_
  exact SS.back (hX19 (s1 + s0, G))
theorem s_Tw_rush_s19 (P W : Int) (x1 : Int) (x2 : Int) (X19 : Int × St → Option (Int × St)) (hX19 : ∀ s, So (MTw_rush P W) 19 [(0, aR 100), (1, aI x1), (2, aI x2), (3, aI (s.1))] [] s.2 (X19 s)) (x3 : Int) (G : St) : SS (MTw_rush P W) (lk X19 some) 19 [(0, aR 100), (1, aI x1), (2, aI x2), (3, aI x3)] [] G (Tw_rush_s19 P W x1 x2 x3 G) := by
  refine r_iload_n 20 3 dX15_rush_19 rfl rfl rfl ?_
  refine r_iload_n 21 1 dX15_rush_20 rfl rfl rfl ?_
  refine r_icmp_ge 59 24 dX15_rush_21 rfl rfl ?_ ?_
  · refine SS.ex ?_
    refine r_to [3] [(3, aI x3)] rfl ?_
    exact s_Tw_rush_b59 P W x3 G
  · refine r_aload_n 25 0 dX15_rush_24 rfl rfl rfl ?_
    refine r_get 28 (aI (G 100 139)) dX15_rush_25 fkX15_818 (fun _ => dsT_100 P W _) nn100 rfl rfl ?_
    refine r_if_le 59 31 dX15_rush_28 rfl rfl ?_ ?_
    · refine SS.ex ?_
      refine r_to [3] [(3, aI x3)] rfl ?_
      exact s_Tw_rush_b59 P W x3 G
    · refine r_aload_n 32 0 dX15_rush_31 rfl rfl rfl ?_
      refine r_iload_n 33 2 dX15_rush_32 rfl rfl rfl ?_
      refine r_aload_n 34 0 dX15_rush_33 rfl rfl rfl ?_
      refine r_get 37 (aI (G 100 139)) dX15_rush_34 fkX15_818 (fun _ => dsT_100 P W _) nn100 rfl rfl ?_
      refine r_irem 38 dX15_rush_37 rfl ?_
      refine r_callvI 41 (Mc := MTw_takeMessage P W) (o := 100) (as := [aI (x2 % (G 100 139))]) (st := []) dX15_rush_38 rfl (c_Tw_takeMessage P W (x2 % (G 100 139)) G) lkX15_863 (cmTw_takeMessage P W) rfl rfl rfl (fun _ => dsT_100 P W _) nn100 rfl (Nat.le_of_ble_eq_true rfl) (Nat.le_of_ble_eq_true rfl) (fun _ => rfl) rfl (fun z1 G2 => ?_)
      refine r_istore 43 [(4, aI z1), (0, aR 100), (1, aI x1), (2, aI x2), (3, aI x3)] dX15_rush_41 rfl rfl rfl ?_
      refine r_iload_n 44 4 dX15_rush_43 rfl rfl rfl ?_
      refine r_iload 46 0 dX15_rush_44 rfl rfl ?_
      refine SS.phi (fun VV_ => Tw_rush_b54 P W x1 x2 VV_ x3 G2) ?_
      refine r_if_lt 53 49 dX15_rush_46 rfl rfl ?_ ?_
      · refine r_iconst 54 0 dX15_rush_53 rfl rfl ?_
        refine r_to [1, 2, 3] [(0, aR 100), (1, aI x1), (2, aI x2)] rfl ?_
        exact s_Tw_rush_b54 P W x1 x2 X19 hX19 0 x3 G2
      · refine r_iconst 50 1 dX15_rush_49 rfl rfl ?_
        refine r_goto 54 dX15_rush_50 rfl ?_
        refine r_to [1, 2, 3] [(0, aR 100), (1, aI x1), (2, aI x2)] rfl ?_
        exact s_Tw_rush_b54 P W x1 x2 X19 hX19 1 x3 G2
theorem sl_Tw_rush_19 (P W : Int) (x1 : Int) (x2 : Int) (x3 : Int) (G : St) : SS (MTw_rush P W) some 19 [(0, aR 100), (1, aI x1), (2, aI x2), (3, aI x3)] [] G (Tw_rush_l19 P W x1 x2 x3 G) := by
  exact SS.loop (σ := Int × St) (fun s => [(0, aR 100), (1, aI x1), (2, aI x2), (3, aI (s.1))]) (fun s => s.2) (fun s => Tw_rush_s19 P W x1 x2 s.1 s.2) (fun X19 hX19 s => s_Tw_rush_s19 P W x1 x2  X19 hX19 s.1 s.2) (x3, G)
theorem s_Tw_rush (P W : Int) (x1 : Int) (x2 : Int) (G : St) : SS (MTw_rush P W) some 0 [(0, aR 100), (1, aI x1), (2, aI x2)] [] G (Tw_rush P W x1 x2 G) := by
  refine r_iload_n 1 1 dX15_rush_0 rfl rfl rfl ?_
  refine r_if_lt 15 4 dX15_rush_1 rfl rfl ?_ ?_
  · refine r_iconst 16 (-1) dX15_rush_15 rfl rfl ?_
    exact r_ireturn dX15_rush_16 rfl
  · refine r_iload_n 5 2 dX15_rush_4 rfl rfl rfl ?_
    refine r_if_lt 15 8 dX15_rush_5 rfl rfl ?_ ?_
    · refine r_iconst 16 (-1) dX15_rush_15 rfl rfl ?_
      exact r_ireturn dX15_rush_16 rfl
    · refine r_iload_n 9 1 dX15_rush_8 rfl rfl rfl ?_
      refine r_ldcw 12 100000 dX15_rush_9 q2570 (by decide) rfl rfl ?_
      refine r_icmp_le 17 15 dX15_rush_12 rfl rfl ?_ ?_
      · refine r_iconst 18 0 dX15_rush_17 rfl rfl ?_
        refine r_istore_n 19 [(3, aI 0), (0, aR 100), (1, aI x1), (2, aI x2)] dX15_rush_18 rfl rfl rfl rfl ?_
        refine r_to [1, 2, 3, 0] [(0, aR 100), (1, aI x1), (2, aI x2), (3, aI 0)] rfl ?_
        exact sl_Tw_rush_19 P W x1 x2 0 G
      · refine r_iconst 16 (-1) dX15_rush_15 rfl rfl ?_
        exact r_ireturn dX15_rush_16 rfl
theorem c_Tw_rush (P W : Int) (x1 : Int) (x2 : Int) (G : St) : MG (MTw_rush P W) [aR 100, aI x1, aI x2] G (Tw_rush P W x1 x2 G) := MG.of plX15 (Nat.le_of_ble_eq_true rfl) (s_Tw_rush P W x1 x2 G)
theorem s_Tw_viewBits (P W : Int) (x1 : Int) (G : St) : SS (MTw_viewBits P W) some 0 [(0, aR 100), (1, aI x1)] [] G (Tw_viewBits P W x1 G) := by
  refine r_aload_n 1 0 dX15_viewBits_0 rfl rfl rfl ?_
  refine r_get 4 (aR 245) dX15_viewBits_1 fkX15_296 (fun _ => dsT_100 P W _) nn100 rfl rfl ?_
  refine r_iload_n 5 1 dX15_viewBits_4 rfl rfl rfl ?_
  refine r_iald 6 dX15_viewBits_5 (fun _ _ _ => dsT_245 P W _) (fun _ _ => nn245) rfl ?_
  refine r_aload_n 7 0 dX15_viewBits_6 rfl rfl rfl ?_
  refine r_get 10 (aI P) dX15_viewBits_7 fkX15_299 (fun _ => dsT_100 P W _) nn100 rfl rfl ?_
  refine r_imul 11 dX15_viewBits_10 rfl ?_
  refine r_iconst 12 3 dX15_viewBits_11 rfl rfl ?_
  refine r_aload_n 13 0 dX15_viewBits_12 rfl rfl rfl ?_
  refine r_get 16 (aI (G 100 67)) dX15_viewBits_13 fkX15_630 (fun _ => dsT_100 P W _) nn100 rfl rfl ?_
  refine r_imul 17 dX15_viewBits_16 rfl ?_
  refine r_iadd 18 dX15_viewBits_17 rfl ?_
  refine r_aload_n 19 0 dX15_viewBits_18 rfl rfl rfl ?_
  refine r_get 22 (aR 237) dX15_viewBits_19 fkX15_277 (fun _ => dsT_100 P W _) nn100 rfl rfl ?_
  refine r_iload_n 23 1 dX15_viewBits_22 rfl rfl rfl ?_
  refine r_iald 24 dX15_viewBits_23 (fun _ _ _ => dsT_237 P W _) (fun _ _ => nn237) rfl ?_
  refine r_iadd 25 dX15_viewBits_24 rfl ?_
  exact r_ireturn dX15_viewBits_25 rfl
theorem c_Tw_viewBits (P W : Int) (x1 : Int) (G : St) : MG (MTw_viewBits P W) [aR 100, aI x1] G (Tw_viewBits P W x1 G) := MG.of plX15 (Nat.le_of_ble_eq_true rfl) (s_Tw_viewBits P W x1 G)
theorem s_Tw_party (P W : Int) (x1 : Int) (x2 : Int) (G : St) : SS (MTw_party P W) some 0 [(0, aR 100), (1, aI x1), (2, aI x2)] [] G (Tw_party P W x1 x2 G) := by
  refine r_aload_n 1 0 dX15_party_0 rfl rfl rfl ?_
  refine r_get 4 (aI (G 100 124)) dX15_party_1 fkX15_762 (fun _ => dsT_100 P W _) nn100 rfl rfl ?_
  refine r_if_eq 28 7 dX15_party_4 rfl rfl ?_ ?_
  · refine r_iconst 29 (-1) dX15_party_28 rfl rfl ?_
    exact r_ireturn dX15_party_29 rfl
  · refine r_iload_n 8 1 dX15_party_7 rfl rfl rfl ?_
    refine r_if_lt 28 11 dX15_party_8 rfl rfl ?_ ?_
    · refine r_iconst 29 (-1) dX15_party_28 rfl rfl ?_
      exact r_ireturn dX15_party_29 rfl
    · refine r_iload_n 12 1 dX15_party_11 rfl rfl rfl ?_
      refine r_aload_n 13 0 dX15_party_12 rfl rfl rfl ?_
      refine r_get 16 (aI P) dX15_party_13 fkX15_299 (fun _ => dsT_100 P W _) nn100 rfl rfl ?_
      refine r_icmp_ge 28 19 dX15_party_16 rfl rfl ?_ ?_
      · refine r_iconst 29 (-1) dX15_party_28 rfl rfl ?_
        exact r_ireturn dX15_party_29 rfl
      · refine r_iload_n 20 2 dX15_party_19 rfl rfl rfl ?_
        refine r_if_lt 28 23 dX15_party_20 rfl rfl ?_ ?_
        · refine r_iconst 29 (-1) dX15_party_28 rfl rfl ?_
          exact r_ireturn dX15_party_29 rfl
        · refine r_iload_n 24 2 dX15_party_23 rfl rfl rfl ?_
          refine r_iconst 25 2 dX15_party_24 rfl rfl ?_
          refine r_icmp_le 30 28 dX15_party_25 rfl rfl ?_ ?_
          · refine r_iload_n 31 2 dX15_party_30 rfl rfl rfl ?_
            refine r_if_ne 43 34 dX15_party_31 rfl rfl ?_ ?_
            · refine r_iload_n 44 2 dX15_party_43 rfl rfl rfl ?_
              refine r_iconst 45 1 dX15_party_44 rfl rfl ?_
              refine r_icmp_ne 57 48 dX15_party_45 rfl rfl ?_ ?_
              · refine r_aload_n 58 0 dX15_party_57 rfl rfl rfl ?_
                refine r_iload_n 59 1 dX15_party_58 rfl rfl rfl ?_
                refine r_callvI 62 (Mc := MTw_viewBits P W) (o := 100) (as := [aI x1]) (st := []) dX15_party_59 rfl (c_Tw_viewBits P W x1 G) lkX15_866 (cmTw_viewBits P W) rfl rfl rfl (fun _ => dsT_100 P W _) nn100 rfl (Nat.le_of_ble_eq_true rfl) (Nat.le_of_ble_eq_true rfl) (fun _ => rfl) rfl (fun z1 G2 => ?_)
                exact r_ireturn dX15_party_62 rfl
              · refine r_aload_n 49 0 dX15_party_48 rfl rfl rfl ?_
                refine r_get 52 (aR 236) dX15_party_49 fkX15_274 (fun _ => dsT_100 P W _) nn100 rfl rfl ?_
                refine r_iload_n 53 1 dX15_party_52 rfl rfl rfl ?_
                refine r_iald 54 dX15_party_53 (fun _ _ _ => dsT_236 P W _) (fun _ _ => nn236) rfl ?_
                refine r_goto 62 dX15_party_54 rfl ?_
                exact r_ireturn dX15_party_62 rfl
            · refine r_aload_n 35 0 dX15_party_34 rfl rfl rfl ?_
              refine r_get 38 (aR 233) dX15_party_35 fkX15_265 (fun _ => dsT_100 P W _) nn100 rfl rfl ?_
              refine r_iload_n 39 1 dX15_party_38 rfl rfl rfl ?_
              refine r_iald 40 dX15_party_39 (fun _ _ _ => dsT_233 P W _) (fun _ _ => nn233) rfl ?_
              refine r_goto 62 dX15_party_40 rfl ?_
              exact r_ireturn dX15_party_62 rfl
          · refine r_iconst 29 (-1) dX15_party_28 rfl rfl ?_
            exact r_ireturn dX15_party_29 rfl
theorem c_Tw_party (P W : Int) (x1 : Int) (x2 : Int) (G : St) : MG (MTw_party P W) [aR 100, aI x1, aI x2] G (Tw_party P W x1 x2 G) := MG.of plX15 (Nat.le_of_ble_eq_true rfl) (s_Tw_party P W x1 x2 G)
theorem s_Tw_dealt_b86 (P W : Int) (x1 : Int) (s0 : Int) (G : St) : SS (MTw_dealt P W) some 86 [(1, aI x1)] [aI s0] G (Tw_dealt_b86 P W x1 s0 G) := by
  refine r_iload_n 87 0 dX15_dealt_86 rfl rfl rfl ?_
  refine r_ishr 88 dX15_dealt_87 rfl ?_
  refine r_iconst 89 1 dX15_dealt_88 rfl rfl ?_
  refine r_iand 90 dX15_dealt_89 rfl ?_
  exact r_ireturn dX15_dealt_90 rfl
theorem s_Tw_dealt (P W : Int) (x1 : Int) (x2 : Int) (x3 : Int) (G : St) : SS (MTw_dealt P W) some 0 [(0, aR 100), (1, aI x1), (2, aI x2), (3, aI x3)] [] G (Tw_dealt P W x1 x2 x3 G) := by
  refine r_aload_n 1 0 dX15_dealt_0 rfl rfl rfl ?_
  refine r_get 4 (aI (G 100 124)) dX15_dealt_1 fkX15_762 (fun _ => dsT_100 P W _) nn100 rfl rfl ?_
  refine r_if_eq 40 7 dX15_dealt_4 rfl rfl ?_ ?_
  · refine r_iconst 41 (-1) dX15_dealt_40 rfl rfl ?_
    exact r_ireturn dX15_dealt_41 rfl
  · refine r_iload_n 8 1 dX15_dealt_7 rfl rfl rfl ?_
    refine r_if_lt 40 11 dX15_dealt_8 rfl rfl ?_ ?_
    · refine r_iconst 41 (-1) dX15_dealt_40 rfl rfl ?_
      exact r_ireturn dX15_dealt_41 rfl
    · refine r_iload_n 12 1 dX15_dealt_11 rfl rfl rfl ?_
      refine r_aload_n 13 0 dX15_dealt_12 rfl rfl rfl ?_
      refine r_get 16 (aI P) dX15_dealt_13 fkX15_299 (fun _ => dsT_100 P W _) nn100 rfl rfl ?_
      refine r_icmp_ge 40 19 dX15_dealt_16 rfl rfl ?_ ?_
      · refine r_iconst 41 (-1) dX15_dealt_40 rfl rfl ?_
        exact r_ireturn dX15_dealt_41 rfl
      · refine r_iload_n 20 2 dX15_dealt_19 rfl rfl rfl ?_
        refine r_if_lt 40 23 dX15_dealt_20 rfl rfl ?_ ?_
        · refine r_iconst 41 (-1) dX15_dealt_40 rfl rfl ?_
          exact r_ireturn dX15_dealt_41 rfl
        · refine r_iload_n 24 2 dX15_dealt_23 rfl rfl rfl ?_
          refine r_aload_n 25 0 dX15_dealt_24 rfl rfl rfl ?_
          refine r_get 28 (aI (G 100 66)) dX15_dealt_25 fkX15_624 (fun _ => dsT_100 P W _) nn100 rfl rfl ?_
          refine r_icmp_ge 40 31 dX15_dealt_28 rfl rfl ?_ ?_
          · refine r_iconst 41 (-1) dX15_dealt_40 rfl rfl ?_
            exact r_ireturn dX15_dealt_41 rfl
          · refine r_iload_n 32 3 dX15_dealt_31 rfl rfl rfl ?_
            refine r_if_lt 40 35 dX15_dealt_32 rfl rfl ?_ ?_
            · refine r_iconst 41 (-1) dX15_dealt_40 rfl rfl ?_
              exact r_ireturn dX15_dealt_41 rfl
            · refine r_iload_n 36 3 dX15_dealt_35 rfl rfl rfl ?_
              refine r_iconst 37 2 dX15_dealt_36 rfl rfl ?_
              refine r_icmp_le 42 40 dX15_dealt_37 rfl rfl ?_ ?_
              · refine r_aload_n 43 0 dX15_dealt_42 rfl rfl rfl ?_
                refine r_get 46 (aR 172) dX15_dealt_43 fkX15_124 (fun _ => dsT_100 P W _) nn100 rfl rfl ?_
                refine r_iload_n 47 2 dX15_dealt_46 rfl rfl rfl ?_
                refine r_iald 48 dX15_dealt_47 (fun _ _ _ => dsT_172 P W _) (fun _ _ => nn172) rfl ?_
                refine r_if_ne 53 51 dX15_dealt_48 rfl rfl ?_ ?_
                · refine r_iload_n 54 3 dX15_dealt_53 rfl rfl rfl ?_
                  refine r_if_ne 66 57 dX15_dealt_54 rfl rfl ?_ ?_
                  · refine r_iload_n 67 3 dX15_dealt_66 rfl rfl rfl ?_
                    refine r_iconst 68 1 dX15_dealt_67 rfl rfl ?_
                    refine r_icmp_ne 80 71 dX15_dealt_68 rfl rfl ?_ ?_
                    · refine r_aload_n 81 0 dX15_dealt_80 rfl rfl rfl ?_
                      refine r_get 84 (aR 229) dX15_dealt_81 fkX15_256 (fun _ => dsT_100 P W _) nn100 rfl rfl ?_
                      refine r_iload_n 85 2 dX15_dealt_84 rfl rfl rfl ?_
                      refine r_iald 86 dX15_dealt_85 (fun _ _ _ => dsT_229 P W _) (fun _ _ => nn229) rfl ?_
                      refine r_to [1] [(1, aI x1)] rfl ?_
                      exact s_Tw_dealt_b86 P W x1 (G 229 x2) G
                    · refine r_aload_n 72 0 dX15_dealt_71 rfl rfl rfl ?_
                      refine r_get 75 (aR 228) dX15_dealt_72 fkX15_253 (fun _ => dsT_100 P W _) nn100 rfl rfl ?_
                      refine r_iload_n 76 2 dX15_dealt_75 rfl rfl rfl ?_
                      refine r_iald 77 dX15_dealt_76 (fun _ _ _ => dsT_228 P W _) (fun _ _ => nn228) rfl ?_
                      refine r_goto 86 dX15_dealt_77 rfl ?_
                      refine r_to [1] [(1, aI x1)] rfl ?_
                      exact s_Tw_dealt_b86 P W x1 (G 228 x2) G
                  · refine r_aload_n 58 0 dX15_dealt_57 rfl rfl rfl ?_
                    refine r_get 61 (aR 227) dX15_dealt_58 fkX15_250 (fun _ => dsT_100 P W _) nn100 rfl rfl ?_
                    refine r_iload_n 62 2 dX15_dealt_61 rfl rfl rfl ?_
                    refine r_iald 63 dX15_dealt_62 (fun _ _ _ => dsT_227 P W _) (fun _ _ => nn227) rfl ?_
                    refine r_goto 86 dX15_dealt_63 rfl ?_
                    refine r_to [1] [(1, aI x1)] rfl ?_
                    exact s_Tw_dealt_b86 P W x1 (G 227 x2) G
                · refine r_iconst 52 (-1) dX15_dealt_51 rfl rfl ?_
                  exact r_ireturn dX15_dealt_52 rfl
              · refine r_iconst 41 (-1) dX15_dealt_40 rfl rfl ?_
                exact r_ireturn dX15_dealt_41 rfl
theorem c_Tw_dealt (P W : Int) (x1 : Int) (x2 : Int) (x3 : Int) (G : St) : MG (MTw_dealt P W) [aR 100, aI x1, aI x2, aI x3] G (Tw_dealt P W x1 x2 x3 G) := MG.of plX15 (Nat.le_of_ble_eq_true rfl) (s_Tw_dealt P W x1 x2 x3 G)
theorem s_Tw_share_b61 (P W : Int) (x1 : Int) (x2 : Int) (s0 : Int) (G : St) : SS (MTw_share P W) some 61 [(0, aR 100), (1, aI x1), (2, aI x2)] [aI s0] G (Tw_share_b61 P W x1 x2 s0 G) := by
  refine r_istore_n 62 [(3, aI s0), (0, aR 100), (1, aI x1), (2, aI x2)] dX15_share_61 rfl rfl rfl rfl ?_
  refine r_aload_n 63 1 dX15_share_62 rfl rfl rfl ?_
  refine r_get 66 (aR 233) dX15_share_63 fkX15_265 (fun _ => dsT_100 P W _) nn100 rfl rfl ?_
  refine r_iload_n 67 2 dX15_share_66 rfl rfl rfl ?_
  refine r_iald 68 dX15_share_67 (fun _ _ _ => dsT_233 P W _) (fun _ _ => nn233) rfl ?_
  refine r_iload_n 69 0 dX15_share_68 rfl rfl rfl ?_
  refine r_icmp_le 85 72 dX15_share_69 rfl rfl ?_ ?_
  · refine r_iconst 86 (-1) dX15_share_85 rfl rfl ?_
    exact r_ireturn dX15_share_86 rfl
  · refine r_aload_n 73 1 dX15_share_72 rfl rfl rfl ?_
    refine r_get 76 (aR 226) dX15_share_73 fkX15_247 (fun _ => dsT_100 P W _) nn100 rfl rfl ?_
    refine r_iload_n 77 3 dX15_share_76 rfl rfl rfl ?_
    refine r_iald 78 dX15_share_77 (fun _ _ _ => dsT_226 P W _) (fun _ _ => nn226) rfl ?_
    refine r_iload_n 79 2 dX15_share_78 rfl rfl rfl ?_
    refine r_ishr 80 dX15_share_79 rfl ?_
    refine r_iconst 81 1 dX15_share_80 rfl rfl ?_
    refine r_iand 82 dX15_share_81 rfl ?_
    refine r_goto 86 dX15_share_82 rfl ?_
    exact r_ireturn dX15_share_86 rfl
theorem s_Tw_share (P W : Int) (x1 : Int) (x2 : Int) (G : St) : SS (MTw_share P W) some 0 [(0, aR 100), (1, aI x1), (2, aI x2)] [] G (Tw_share P W x1 x2 G) := by
  refine r_aload_n 1 0 dX15_share_0 rfl rfl rfl ?_
  refine r_get 4 (aI (G 100 124)) dX15_share_1 fkX15_762 (fun _ => dsT_100 P W _) nn100 rfl rfl ?_
  refine r_if_eq 36 7 dX15_share_4 rfl rfl ?_ ?_
  · refine r_iconst 37 (-1) dX15_share_36 rfl rfl ?_
    exact r_ireturn dX15_share_37 rfl
  · refine r_iload_n 8 1 dX15_share_7 rfl rfl rfl ?_
    refine r_if_lt 36 11 dX15_share_8 rfl rfl ?_ ?_
    · refine r_iconst 37 (-1) dX15_share_36 rfl rfl ?_
      exact r_ireturn dX15_share_37 rfl
    · refine r_iload_n 12 1 dX15_share_11 rfl rfl rfl ?_
      refine r_aload_n 13 0 dX15_share_12 rfl rfl rfl ?_
      refine r_get 16 (aI P) dX15_share_13 fkX15_299 (fun _ => dsT_100 P W _) nn100 rfl rfl ?_
      refine r_icmp_ge 36 19 dX15_share_16 rfl rfl ?_ ?_
      · refine r_iconst 37 (-1) dX15_share_36 rfl rfl ?_
        exact r_ireturn dX15_share_37 rfl
      · refine r_iload_n 20 2 dX15_share_19 rfl rfl rfl ?_
        refine r_if_lt 36 23 dX15_share_20 rfl rfl ?_ ?_
        · refine r_iconst 37 (-1) dX15_share_36 rfl rfl ?_
          exact r_ireturn dX15_share_37 rfl
        · refine r_iload_n 24 2 dX15_share_23 rfl rfl rfl ?_
          refine r_aload_n 25 0 dX15_share_24 rfl rfl rfl ?_
          refine r_get 28 (aI (G 100 65)) dX15_share_25 fkX15_618 (fun _ => dsT_100 P W _) nn100 rfl rfl ?_
          refine r_aload_n 29 0 dX15_share_28 rfl rfl rfl ?_
          refine r_get 32 (aI (G 100 66)) dX15_share_29 fkX15_624 (fun _ => dsT_100 P W _) nn100 rfl rfl ?_
          refine r_iadd 33 dX15_share_32 rfl ?_
          refine r_icmp_lt 38 36 dX15_share_33 rfl rfl ?_ ?_
          · refine r_iload_n 39 2 dX15_share_38 rfl rfl rfl ?_
            refine r_aload_n 40 0 dX15_share_39 rfl rfl rfl ?_
            refine r_get 43 (aI (G 100 65)) dX15_share_40 fkX15_618 (fun _ => dsT_100 P W _) nn100 rfl rfl ?_
            refine r_icmp_ge 50 46 dX15_share_43 rfl rfl ?_ ?_
            · refine r_aload_n 51 0 dX15_share_50 rfl rfl rfl ?_
              refine r_get 54 (aR 173) dX15_share_51 fkX15_127 (fun _ => dsT_100 P W _) nn100 rfl rfl ?_
              refine r_iload_n 55 2 dX15_share_54 rfl rfl rfl ?_
              refine r_aload_n 56 0 dX15_share_55 rfl rfl rfl ?_
              refine r_get 59 (aI (G 100 65)) dX15_share_56 fkX15_618 (fun _ => dsT_100 P W _) nn100 rfl rfl ?_
              refine r_isub 60 dX15_share_59 rfl ?_
              refine r_iald 61 dX15_share_60 (fun _ _ _ => dsT_173 P W _) (fun _ _ => nn173) rfl ?_
              exact s_Tw_share_b61 P W x1 x2 (G 173 (x2 - (G 100 65))) G
            · refine r_iconst 47 0 dX15_share_46 rfl rfl ?_
              refine r_goto 61 dX15_share_47 rfl ?_
              exact s_Tw_share_b61 P W x1 x2 0 G
          · refine r_iconst 37 (-1) dX15_share_36 rfl rfl ?_
            exact r_ireturn dX15_share_37 rfl
theorem c_Tw_share (P W : Int) (x1 : Int) (x2 : Int) (G : St) : MG (MTw_share P W) [aR 100, aI x1, aI x2] G (Tw_share P W x1 x2 G) := MG.of plX15 (Nat.le_of_ble_eq_true rfl) (s_Tw_share P W x1 x2 G)
theorem s_Tw_view_s357 (P W : Int) (x1 : Int) (X357 : Int × Int × St → Option (Int × St)) (hX357 : ∀ s, So (MTw_view P W) 357 [(0, aR 100), (1, aI x1), (3, aI (s.1)), (5, aI (s.2.1))] [] s.2.2 (X357 s)) (x3 : Int) (x5 : Int) (G : St) : SS (MTw_view P W) (lk X357 some) 357 [(0, aR 100), (1, aI x1), (3, aI x3), (5, aI x5)] [] G (Tw_view_s357 P W x1 x3 x5 G) := by
  refine r_iload_n 358 2 dX15_view_357 rfl rfl rfl ?_
  refine r_aload_n 359 0 dX15_view_358 rfl rfl rfl ?_
  refine r_aload_n 360 0 dX15_view_359 rfl rfl rfl ?_
  refine r_get 363 (aR 238) dX15_view_360 fkX15_281 (fun _ => dsT_100 P W _) nn100 rfl rfl ?_
  refine r_iload 365 3 dX15_view_363 rfl rfl ?_
  refine r_iald 366 dX15_view_365 (fun _ _ _ => dsT_238 P W _) (fun _ _ => nn238) rfl ?_
  refine r_aload_n 367 0 dX15_view_366 rfl rfl rfl ?_
  refine r_get 370 (aR 239) dX15_view_367 fkX15_284 (fun _ => dsT_100 P W _) nn100 rfl rfl ?_
  refine r_iload 372 3 dX15_view_370 rfl rfl ?_
  refine r_iald 373 dX15_view_372 (fun _ _ _ => dsT_239 P W _) (fun _ _ => nn239) rfl ?_
  refine r_callvI 376 (Mc := MTw_lengthOf P W) (o := 100) (as := [aI (G 238 x5), aI (G 239 x5)]) (st := [aI x3]) dX15_view_373 rfl (c_Tw_lengthOf P W (G 238 x5) (G 239 x5) G) lkX15_827 (cmTw_lengthOf P W) rfl rfl rfl (fun _ => dsT_100 P W _) nn100 rfl (Nat.le_of_ble_eq_true rfl) (Nat.le_of_ble_eq_true rfl) (fun _ => rfl) rfl (fun z4 G5 => ?_)
  refine r_icmp_lt 406 379 dX15_view_376 rfl rfl ?_ ?_
  · refine SS.ex ?_
    refine r_aload_n 407 0 dX15_view_406 rfl rfl rfl ?_
    refine r_aload_n 408 0 dX15_view_407 rfl rfl rfl ?_
    refine r_get 411 (aR 238) dX15_view_408 fkX15_281 (fun _ => dsT_100 P W _) nn100 rfl rfl ?_
    refine r_iload 413 3 dX15_view_411 rfl rfl ?_
    refine r_iald 414 dX15_view_413 (fun _ _ _ => dsT_238 P W _) (fun _ _ => nn238) rfl ?_
    refine r_iload_n 415 1 dX15_view_414 rfl rfl rfl ?_
    refine r_aload_n 416 0 dX15_view_415 rfl rfl rfl ?_
    refine r_get 419 (aR 239) dX15_view_416 fkX15_284 (fun _ => dsT_100 P W _) nn100 rfl rfl ?_
    refine r_iload 421 3 dX15_view_419 rfl rfl ?_
    refine r_iald 422 dX15_view_421 (fun _ _ _ => dsT_239 P W _) (fun _ _ => nn239) rfl ?_
    refine r_iload_n 423 2 dX15_view_422 rfl rfl rfl ?_
    refine r_callvI 426 (Mc := MTw_sentBit P W) (o := 100) (as := [aI (G5 238 x5), aI x1, aI (G5 239 x5), aI x3]) (st := []) dX15_view_423 rfl (c_Tw_sentBit P W (G5 238 x5) x1 (G5 239 x5) x3 G5) lkX15_860 (cmTw_sentBit P W) rfl rfl rfl (fun _ => dsT_100 P W _) nn100 rfl (Nat.le_of_ble_eq_true rfl) (Nat.le_of_ble_eq_true rfl) (fun _ => rfl) rfl (fun z6 G7 => ?_)
    exact r_ireturn dX15_view_426 rfl
  · refine r_iload_n 380 2 dX15_view_379 rfl rfl rfl ?_
    refine r_aload_n 381 0 dX15_view_380 rfl rfl rfl ?_
    refine r_aload_n 382 0 dX15_view_381 rfl rfl rfl ?_
    refine r_get 385 (aR 238) dX15_view_382 fkX15_281 (fun _ => dsT_100 P W _) nn100 rfl rfl ?_
    refine r_iload 387 3 dX15_view_385 rfl rfl ?_
    refine r_iald 388 dX15_view_387 (fun _ _ _ => dsT_238 P W _) (fun _ _ => nn238) rfl ?_
    refine r_aload_n 389 0 dX15_view_388 rfl rfl rfl ?_
    refine r_get 392 (aR 239) dX15_view_389 fkX15_284 (fun _ => dsT_100 P W _) nn100 rfl rfl ?_
    refine r_iload 394 3 dX15_view_392 rfl rfl ?_
    refine r_iald 395 dX15_view_394 (fun _ _ _ => dsT_239 P W _) (fun _ _ => nn239) rfl ?_
    refine r_callvI 398 (Mc := MTw_lengthOf P W) (o := 100) (as := [aI (G5 238 x5), aI (G5 239 x5)]) (st := [aI x3]) dX15_view_395 rfl (c_Tw_lengthOf P W (G5 238 x5) (G5 239 x5) G5) lkX15_827 (cmTw_lengthOf P W) rfl rfl rfl (fun _ => dsT_100 P W _) nn100 rfl (Nat.le_of_ble_eq_true rfl) (Nat.le_of_ble_eq_true rfl) (fun _ => rfl) rfl (fun z8 G9 => ?_)
    refine r_isub 399 dX15_view_398 rfl ?_
    refine r_istore_n 400 [(3, aI (x3 - z8)), (0, aR 100), (1, aI x1), (5, aI x5)] dX15_view_399 rfl rfl rfl rfl ?_
    refine r_iinc 403 [(5, aI (x5 + 1)), (3, aI (x3 - z8)), (0, aR 100), (1, aI x1)] 3 dX15_view_400 rfl rfl rfl rfl ?_
    refine r_goto 357 dX15_view_403 rfl ?_
    refine r_to [2, 3, 1, 0] [(0, aR 100), (1, aI x1), (3, aI (x3 - z8)), (5, aI (x5 + 1))] rfl ?_
    exact SS.back (hX357 (x3 - z8, x5 + 1, G9))
theorem sl_Tw_view_357 (P W : Int) (x1 : Int) (x3 : Int) (x5 : Int) (G : St) : SS (MTw_view P W) some 357 [(0, aR 100), (1, aI x1), (3, aI x3), (5, aI x5)] [] G (Tw_view_l357 P W x1 x3 x5 G) := by
  exact SS.loop (σ := Int × Int × St) (fun s => [(0, aR 100), (1, aI x1), (3, aI (s.1)), (5, aI (s.2.1))]) (fun s => s.2.2) (fun s => Tw_view_s357 P W x1 s.1 s.2.1 s.2.2) (fun X357 hX357 s => s_Tw_view_s357 P W x1  X357 hX357 s.1 s.2.1 s.2.2) (x3, x5, G)
theorem s_Tw_view_b278 (P W : Int) (x1 : Int) (x3 : Int) (X260 : Int × Int × St → Option (Int × St)) (hX260 : ∀ s, So (MTw_view P W) 260 [(0, aR 100), (1, aI x1), (3, aI x3), (5, aI (s.1)), (6, aI (s.2.1))] [] s.2.2 (X260 s)) (x5 : Int) (x6 : Int) (G : St) : SS (MTw_view P W) (lk X260 some) 278 [(0, aR 100), (1, aI x1), (3, aI x3), (5, aI x5), (6, aI x6)] [] G (Tw_view_b278 P W x1 x3 x5 x6 G) := by
  refine r_iload 280 4 dX15_view_278 rfl rfl ?_
  refine r_aload_n 281 0 dX15_view_280 rfl rfl rfl ?_
  refine r_get 284 (aR 172) dX15_view_281 fkX15_124 (fun _ => dsT_100 P W _) nn100 rfl rfl ?_
  refine r_iload 286 3 dX15_view_284 rfl rfl ?_
  refine r_iald 287 dX15_view_286 (fun _ _ _ => dsT_172 P W _) (fun _ _ => nn172) rfl ?_
  refine r_iadd 288 dX15_view_287 rfl ?_
  refine r_istore 290 [(6, aI (x6 + (G 172 x5))), (0, aR 100), (1, aI x1), (3, aI x3), (5, aI x5)] dX15_view_288 rfl rfl rfl ?_
  refine r_iinc 293 [(5, aI (x5 + 1)), (6, aI (x6 + (G 172 x5))), (0, aR 100), (1, aI x1), (3, aI x3)] 4 dX15_view_290 rfl rfl rfl rfl ?_
  refine r_goto 260 dX15_view_293 rfl ?_
  refine r_to [2, 3, 4, 0, 1] [(0, aR 100), (1, aI x1), (3, aI x3), (5, aI (x5 + 1)), (6, aI (x6 + (G 172 x5)))] rfl ?_
  exact SS.back (hX260 (x5 + 1, x6 + (G 172 x5), G))
theorem s_Tw_view_b336 (P W : Int) (x1 : Int) (s0 : Int) (G : St) : SS (MTw_view P W) some 336 [(1, aI x1)] [aI s0] G (Tw_view_b336 P W x1 s0 G) := by
  refine r_iload_n 337 0 dX15_view_336 rfl rfl rfl ?_
  refine r_ishr 338 dX15_view_337 rfl ?_
  refine r_iconst 339 1 dX15_view_338 rfl rfl ?_
  refine r_iand 340 dX15_view_339 rfl ?_
  exact r_ireturn dX15_view_340 rfl
theorem s_Tw_view_s260 (P W : Int) (x1 : Int) (x3 : Int) (X260 : Int × Int × St → Option (Int × St)) (hX260 : ∀ s, So (MTw_view P W) 260 [(0, aR 100), (1, aI x1), (3, aI x3), (5, aI (s.1)), (6, aI (s.2.1))] [] s.2.2 (X260 s)) (x5 : Int) (x6 : Int) (G : St) : SS (MTw_view P W) (lk X260 some) 260 [(0, aR 100), (1, aI x1), (3, aI x3), (5, aI x5), (6, aI x6)] [] G (Tw_view_s260 P W x1 x3 x5 x6 G) := by
  refine r_aload_n 261 0 dX15_view_260 rfl rfl rfl ?_
  refine r_get 264 (aR 172) dX15_view_261 fkX15_124 (fun _ => dsT_100 P W _) nn100 rfl rfl ?_
  refine r_iload 266 3 dX15_view_264 rfl rfl ?_
  refine r_iald 267 dX15_view_266 (fun _ _ _ => dsT_172 P W _) (fun _ _ => nn172) rfl ?_
  refine r_if_eq 278 270 dX15_view_267 rfl rfl ?_ ?_
  · exact s_Tw_view_b278 P W x1 x3 X260 hX260 x5 x6 G
  · refine r_iload 272 4 dX15_view_270 rfl rfl ?_
    refine r_iload_n 273 2 dX15_view_272 rfl rfl rfl ?_
    refine r_iconst 274 3 dX15_view_273 rfl rfl ?_
    refine r_idiv 275 dX15_view_274 rfl ?_
    refine r_icmp_ge 296 278 dX15_view_275 rfl rfl ?_ ?_
    · refine SS.ex ?_
      refine r_iload_n 297 2 dX15_view_296 rfl rfl rfl ?_
      refine r_iconst 298 3 dX15_view_297 rfl rfl ?_
      refine r_irem 299 dX15_view_298 rfl ?_
      refine r_if_ne 312 302 dX15_view_299 rfl rfl ?_ ?_
      · refine r_iload_n 313 2 dX15_view_312 rfl rfl rfl ?_
        refine r_iconst 314 3 dX15_view_313 rfl rfl ?_
        refine r_irem 315 dX15_view_314 rfl ?_
        refine r_iconst 316 1 dX15_view_315 rfl rfl ?_
        refine r_icmp_ne 329 319 dX15_view_316 rfl rfl ?_ ?_
        · refine r_aload_n 330 0 dX15_view_329 rfl rfl rfl ?_
          refine r_get 333 (aR 229) dX15_view_330 fkX15_256 (fun _ => dsT_100 P W _) nn100 rfl rfl ?_
          refine r_iload 335 3 dX15_view_333 rfl rfl ?_
          refine r_iald 336 dX15_view_335 (fun _ _ _ => dsT_229 P W _) (fun _ _ => nn229) rfl ?_
          refine r_to [1] [(1, aI x1)] rfl ?_
          exact s_Tw_view_b336 P W x1 (G 229 x5) G
        · refine r_aload_n 320 0 dX15_view_319 rfl rfl rfl ?_
          refine r_get 323 (aR 228) dX15_view_320 fkX15_253 (fun _ => dsT_100 P W _) nn100 rfl rfl ?_
          refine r_iload 325 3 dX15_view_323 rfl rfl ?_
          refine r_iald 326 dX15_view_325 (fun _ _ _ => dsT_228 P W _) (fun _ _ => nn228) rfl ?_
          refine r_goto 336 dX15_view_326 rfl ?_
          refine r_to [1] [(1, aI x1)] rfl ?_
          exact s_Tw_view_b336 P W x1 (G 228 x5) G
      · refine r_aload_n 303 0 dX15_view_302 rfl rfl rfl ?_
        refine r_get 306 (aR 227) dX15_view_303 fkX15_250 (fun _ => dsT_100 P W _) nn100 rfl rfl ?_
        refine r_iload 308 3 dX15_view_306 rfl rfl ?_
        refine r_iald 309 dX15_view_308 (fun _ _ _ => dsT_227 P W _) (fun _ _ => nn227) rfl ?_
        refine r_goto 336 dX15_view_309 rfl ?_
        refine r_to [1] [(1, aI x1)] rfl ?_
        exact s_Tw_view_b336 P W x1 (G 227 x5) G
    · exact s_Tw_view_b278 P W x1 x3 X260 hX260 x5 x6 G
theorem sl_Tw_view_260 (P W : Int) (x1 : Int) (x3 : Int) (x5 : Int) (x6 : Int) (G : St) : SS (MTw_view P W) some 260 [(0, aR 100), (1, aI x1), (3, aI x3), (5, aI x5), (6, aI x6)] [] G (Tw_view_l260 P W x1 x3 x5 x6 G) := by
  exact SS.loop (σ := Int × Int × St) (fun s => [(0, aR 100), (1, aI x1), (3, aI x3), (5, aI (s.1)), (6, aI (s.2.1))]) (fun s => s.2.2) (fun s => Tw_view_s260 P W x1 x3 s.1 s.2.1 s.2.2) (fun X260 hX260 s => s_Tw_view_s260 P W x1 x3  X260 hX260 s.1 s.2.1 s.2.2) (x5, x6, G)
theorem s_Tw_view_b156 (P W : Int) (x1 : Int) (x3 : Int) (x4 : Int) (x5 : Int) (X109 : Int × Int × St → Option (Int × St)) (hX109 : ∀ s, So (MTw_view P W) 109 [(0, aR 100), (1, aI x1), (3, aI x3), (4, aI x4), (5, aI x5), (6, aI (s.1)), (7, aI (s.2.1))] [] s.2.2 (X109 s)) (x7 : Int) (s0 : Int) (s1 : Int) (G : St) : SS (MTw_view P W) (lk X109 some) 156 [(0, aR 100), (1, aI x1), (3, aI x3), (4, aI x4), (5, aI x5), (7, aI x7)] [aI s0, aI s1] G (Tw_view_b156 P W x1 x3 x4 x5 x7 s0 s1 G) := by
  refine r_isub 157 dX15_view_156 rfl ?_
  refine r_istore 159 [(6, aI (s1 - s0)), (0, aR 100), (1, aI x1), (3, aI x3), (4, aI x4), (5, aI x5), (7, aI x7)] dX15_view_157 rfl rfl rfl ?_
  refine r_iinc 162 [(7, aI (x7 + 1)), (6, aI (s1 - s0)), (0, aR 100), (1, aI x1), (3, aI x3), (4, aI x4), (5, aI x5)] 6 dX15_view_159 rfl rfl rfl rfl ?_
  refine r_goto 109 dX15_view_162 rfl ?_
  refine r_to [2, 3, 4, 5, 6, 1, 0] [(0, aR 100), (1, aI x1), (3, aI x3), (4, aI x4), (5, aI x5), (6, aI (s1 - s0)), (7, aI (x7 + 1))] rfl ?_
  exact SS.back (hX109 (s1 - s0, x7 + 1, G))
theorem s_Tw_view_b132 (P W : Int) (x1 : Int) (x3 : Int) (x4 : Int) (x5 : Int) (X109 : Int × Int × St → Option (Int × St)) (hX109 : ∀ s, So (MTw_view P W) 109 [(0, aR 100), (1, aI x1), (3, aI x3), (4, aI x4), (5, aI x5), (6, aI (s.1)), (7, aI (s.2.1))] [] s.2.2 (X109 s)) (x6 : Int) (x7 : Int) (G : St) : SS (MTw_view P W) (lk X109 some) 132 [(0, aR 100), (1, aI x1), (3, aI x3), (4, aI x4), (5, aI x5), (6, aI x6), (7, aI x7)] [] G (Tw_view_b132 P W x1 x3 x4 x5 x6 x7 G) := by
  refine r_iload 134 5 dX15_view_132 rfl rfl ?_
  refine r_aload_n 135 0 dX15_view_134 rfl rfl rfl ?_
  refine r_get 138 (aR 177) dX15_view_135 fkX15_136 (fun _ => dsT_100 P W _) nn100 rfl rfl ?_
  refine r_iload 140 6 dX15_view_138 rfl rfl ?_
  refine r_iald 141 dX15_view_140 (fun _ _ _ => dsT_177 P W _) (fun _ _ => nn177) rfl ?_
  refine r_iload_n 142 1 dX15_view_141 rfl rfl rfl ?_
  refine r_icmp_ne 155 145 dX15_view_142 rfl rfl ?_ ?_
  · refine r_iconst 156 0 dX15_view_155 rfl rfl ?_
    refine r_to [0, 1, 2, 3, 4, 6] [(0, aR 100), (1, aI x1), (3, aI x3), (4, aI x4), (5, aI x5), (7, aI x7)] rfl ?_
    exact s_Tw_view_b156 P W x1 x3 x4 x5 X109 hX109 x7 0 x6 G
  · refine r_aload_n 146 0 dX15_view_145 rfl rfl rfl ?_
    refine r_get 149 (aR 178) dX15_view_146 fkX15_139 (fun _ => dsT_100 P W _) nn100 rfl rfl ?_
    refine r_iload 151 6 dX15_view_149 rfl rfl ?_
    refine r_iald 152 dX15_view_151 (fun _ _ _ => dsT_178 P W _) (fun _ _ => nn178) rfl ?_
    refine r_goto 156 dX15_view_152 rfl ?_
    refine r_to [0, 1, 2, 3, 4, 6] [(0, aR 100), (1, aI x1), (3, aI x3), (4, aI x4), (5, aI x5), (7, aI x7)] rfl ?_
    exact s_Tw_view_b156 P W x1 x3 x4 x5 X109 hX109 x7 (G 178 x7) x6 G
theorem s_Tw_view_b210 (P W : Int) (x6 : Int) (x7 : Int) (s0 : Int) (s1 : Int) (G : St) : SS (MTw_view P W) some 210 [(0, aR 100), (6, aI x6), (7, aI x7)] [aI s0, aI s1] G (Tw_view_b210 P W x6 x7 s0 s1 G) := by
  refine r_iadd 211 dX15_view_210 rfl ?_
  refine r_istore 213 [(8, aI (s1 + s0)), (0, aR 100), (6, aI x6), (7, aI x7)] dX15_view_211 rfl rfl rfl ?_
  refine r_aload_n 214 1 dX15_view_213 rfl rfl rfl ?_
  refine r_get 217 (aR 226) dX15_view_214 fkX15_247 (fun _ => dsT_100 P W _) nn100 rfl rfl ?_
  refine r_aload_n 218 1 dX15_view_217 rfl rfl rfl ?_
  refine r_get 221 (aR 179) dX15_view_218 fkX15_142 (fun _ => dsT_100 P W _) nn100 rfl rfl ?_
  refine r_iload 223 3 dX15_view_221 rfl rfl ?_
  refine r_iald 224 dX15_view_223 (fun _ _ _ => dsT_179 P W _) (fun _ _ => nn179) rfl ?_
  refine r_iload 226 2 dX15_view_224 rfl rfl ?_
  refine r_iadd 227 dX15_view_226 rfl ?_
  refine r_iald 228 dX15_view_227 (fun _ _ _ => dsT_226 P W _) (fun _ _ => nn226) rfl ?_
  refine r_iload 230 0 dX15_view_228 rfl rfl ?_
  refine r_ishr 231 dX15_view_230 rfl ?_
  refine r_iconst 232 1 dX15_view_231 rfl rfl ?_
  refine r_iand 233 dX15_view_232 rfl ?_
  exact r_ireturn dX15_view_233 rfl
theorem s_Tw_view_s109 (P W : Int) (x1 : Int) (x3 : Int) (x4 : Int) (x5 : Int) (X109 : Int × Int × St → Option (Int × St)) (hX109 : ∀ s, So (MTw_view P W) 109 [(0, aR 100), (1, aI x1), (3, aI x3), (4, aI x4), (5, aI x5), (6, aI (s.1)), (7, aI (s.2.1))] [] s.2.2 (X109 s)) (x6 : Int) (x7 : Int) (G : St) : SS (MTw_view P W) (lk X109 some) 109 [(0, aR 100), (1, aI x1), (3, aI x3), (4, aI x4), (5, aI x5), (6, aI x6), (7, aI x7)] [] G (Tw_view_s109 P W x1 x3 x4 x5 x6 x7 G) := by
  refine r_aload_n 110 0 dX15_view_109 rfl rfl rfl ?_
  refine r_get 113 (aR 177) dX15_view_110 fkX15_136 (fun _ => dsT_100 P W _) nn100 rfl rfl ?_
  refine r_iload 115 6 dX15_view_113 rfl rfl ?_
  refine r_iald 116 dX15_view_115 (fun _ _ _ => dsT_177 P W _) (fun _ _ => nn177) rfl ?_
  refine r_iload_n 117 1 dX15_view_116 rfl rfl rfl ?_
  refine r_icmp_ne 132 120 dX15_view_117 rfl rfl ?_ ?_
  · exact s_Tw_view_b132 P W x1 x3 x4 x5 X109 hX109 x6 x7 G
  · refine r_iload 122 5 dX15_view_120 rfl rfl ?_
    refine r_aload_n 123 0 dX15_view_122 rfl rfl rfl ?_
    refine r_get 126 (aR 178) dX15_view_123 fkX15_139 (fun _ => dsT_100 P W _) nn100 rfl rfl ?_
    refine r_iload 128 6 dX15_view_126 rfl rfl ?_
    refine r_iald 129 dX15_view_128 (fun _ _ _ => dsT_178 P W _) (fun _ _ => nn178) rfl ?_
    refine r_icmp_lt 165 132 dX15_view_129 rfl rfl ?_ ?_
    · refine SS.ex ?_
      refine r_iload 167 4 dX15_view_165 rfl rfl ?_
      refine r_if_ne 184 170 dX15_view_167 rfl rfl ?_ ?_
      · refine r_iload_n 185 2 dX15_view_184 rfl rfl rfl ?_
        refine r_iload 187 3 dX15_view_185 rfl rfl ?_
        refine r_isub 188 dX15_view_187 rfl ?_
        refine r_aload_n 189 0 dX15_view_188 rfl rfl rfl ?_
        refine r_get 192 (aI P) dX15_view_189 fkX15_299 (fun _ => dsT_100 P W _) nn100 rfl rfl ?_
        refine r_iconst 193 1 dX15_view_192 rfl rfl ?_
        refine r_isub 194 dX15_view_193 rfl ?_
        refine r_irem 195 dX15_view_194 rfl ?_
        refine r_istore 197 [(8, aI ((x3 - x4) % (P - 1))), (0, aR 100), (1, aI x1), (3, aI x3), (4, aI x4), (5, aI x5), (6, aI x6), (7, aI x7)] dX15_view_195 rfl rfl rfl ?_
        refine r_iload 199 0 dX15_view_197 rfl rfl ?_
        refine r_iload 201 0 dX15_view_199 rfl rfl ?_
        refine r_iload_n 202 2 dX15_view_201 rfl rfl rfl ?_
        refine SS.phi (fun VV_ => Tw_view_b210 P W x6 x7 VV_ ((x3 - x4) % (P - 1)) G) ?_
        refine r_icmp_lt 209 205 dX15_view_202 rfl rfl ?_ ?_
        · refine r_iconst 210 0 dX15_view_209 rfl rfl ?_
          refine r_to [1, 6, 7] [(0, aR 100), (6, aI x6), (7, aI x7)] rfl ?_
          exact s_Tw_view_b210 P W x6 x7 0 ((x3 - x4) % (P - 1)) G
        · refine r_iconst 206 1 dX15_view_205 rfl rfl ?_
          refine r_goto 210 dX15_view_206 rfl ?_
          refine r_to [1, 6, 7] [(0, aR 100), (6, aI x6), (7, aI x7)] rfl ?_
          exact s_Tw_view_b210 P W x6 x7 1 ((x3 - x4) % (P - 1)) G
      · refine r_aload_n 171 0 dX15_view_170 rfl rfl rfl ?_
        refine r_get 174 (aR 181) dX15_view_171 fkX15_148 (fun _ => dsT_100 P W _) nn100 rfl rfl ?_
        refine r_iload 176 6 dX15_view_174 rfl rfl ?_
        refine r_lald 177 dX15_view_176 (fun _ _ _ => dsT_181 P W _) (fun _ _ => nn181) rfl ?_
        refine r_iload 179 5 dX15_view_177 rfl rfl ?_
        refine r_lshr 180 dX15_view_179 rfl ?_
        refine r_lconst 181 1 dX15_view_180 rfl rfl rfl ?_
        refine r_land 182 dX15_view_181 rfl ?_
        refine r_l2iw 183 dX15_view_182 rfl ?_
        exact r_ireturn dX15_view_183 rfl
    · exact s_Tw_view_b132 P W x1 x3 x4 x5 X109 hX109 x6 x7 G
theorem sl_Tw_view_109 (P W : Int) (x1 : Int) (x3 : Int) (x4 : Int) (x5 : Int) (x6 : Int) (x7 : Int) (G : St) : SS (MTw_view P W) some 109 [(0, aR 100), (1, aI x1), (3, aI x3), (4, aI x4), (5, aI x5), (6, aI x6), (7, aI x7)] [] G (Tw_view_l109 P W x1 x3 x4 x5 x6 x7 G) := by
  exact SS.loop (σ := Int × Int × St) (fun s => [(0, aR 100), (1, aI x1), (3, aI x3), (4, aI x4), (5, aI x5), (6, aI (s.1)), (7, aI (s.2.1))]) (fun s => s.2.2) (fun s => Tw_view_s109 P W x1 x3 x4 x5 s.1 s.2.1 s.2.2) (fun X109 hX109 s => s_Tw_view_s109 P W x1 x3 x4 x5  X109 hX109 s.1 s.2.1 s.2.2) (x6, x7, G)
theorem s_Tw_view_b104 (P W : Int) (x1 : Int) (x3 : Int) (x4 : Int) (x5 : Int) (s0 : Int) (G : St) : SS (MTw_view P W) some 104 [(0, aR 100), (1, aI x1), (3, aI x3), (4, aI x4), (5, aI x5)] [aI s0] G (Tw_view_b104 P W x1 x3 x4 x5 s0 G) := by
  refine r_istore 106 [(6, aI s0), (0, aR 100), (1, aI x1), (3, aI x3), (4, aI x4), (5, aI x5)] dX15_view_104 rfl rfl rfl ?_
  refine r_iconst 107 0 dX15_view_106 rfl rfl ?_
  refine r_istore 109 [(7, aI 0), (6, aI s0), (0, aR 100), (1, aI x1), (3, aI x3), (4, aI x4), (5, aI x5)] dX15_view_107 rfl rfl rfl ?_
  refine r_to [2, 3, 4, 5, 6, 1, 0] [(0, aR 100), (1, aI x1), (3, aI x3), (4, aI x4), (5, aI x5), (6, aI s0), (7, aI 0)] rfl ?_
  exact sl_Tw_view_109 P W x1 x3 x4 x5 s0 0 G
theorem s_Tw_view_b82 (P W : Int) (x1 : Int) (x3 : Int) (x4 : Int) (s0 : Int) (G : St) : SS (MTw_view P W) some 82 [(0, aR 100), (1, aI x1), (3, aI x3), (4, aI x4)] [aI s0] G (Tw_view_b82 P W x1 x3 x4 s0 G) := by
  refine r_istore 84 [(5, aI s0), (0, aR 100), (1, aI x1), (3, aI x3), (4, aI x4)] dX15_view_82 rfl rfl rfl ?_
  refine r_iload 86 0 dX15_view_84 rfl rfl ?_
  refine r_if_eq 103 89 dX15_view_86 rfl rfl ?_ ?_
  · refine r_iload_n 104 3 dX15_view_103 rfl rfl rfl ?_
    refine r_to [1, 2, 3, 4, 0] [(0, aR 100), (1, aI x1), (3, aI x3), (4, aI x4), (5, aI s0)] rfl ?_
    exact s_Tw_view_b104 P W x1 x3 x4 s0 x3 G
  · refine r_iload_n 90 3 dX15_view_89 rfl rfl rfl ?_
    refine r_iload 92 4 dX15_view_90 rfl rfl ?_
    refine r_isub 93 dX15_view_92 rfl ?_
    refine r_aload_n 94 1 dX15_view_93 rfl rfl rfl ?_
    refine r_get 97 (aI P) dX15_view_94 fkX15_299 (fun _ => dsT_100 P W _) nn100 rfl rfl ?_
    refine r_iconst 98 1 dX15_view_97 rfl rfl ?_
    refine r_isub 99 dX15_view_98 rfl ?_
    refine r_idiv 100 dX15_view_99 rfl ?_
    refine r_goto 104 dX15_view_100 rfl ?_
    refine r_to [1, 2, 3, 4, 0] [(0, aR 100), (1, aI x1), (3, aI x3), (4, aI x4), (5, aI s0)] rfl ?_
    exact s_Tw_view_b104 P W x1 x3 x4 s0 ((x3 - x4) / (P - 1)) G
theorem s_Tw_view_b42 (P W : Int) (x1 : Int) (x2 : Int) (s0 : Int) (s2 : Int) (G : St) : SS (MTw_view P W) some 42 [(0, aR 100), (1, aI x1), (2, aI x2)] [aI s0, aR 100, aI s2] G (Tw_view_b42 P W x1 x2 s0 s2 G) := by
  refine r_callvI 45 (Mc := MTw_viewBits P W) (o := 100) (as := [aI s0]) (st := [aI s2]) dX15_view_42 rfl (c_Tw_viewBits P W s0 G) lkX15_866 (cmTw_viewBits P W) rfl rfl rfl (fun _ => dsT_100 P W _) nn100 rfl (Nat.le_of_ble_eq_true rfl) (Nat.le_of_ble_eq_true rfl) (fun _ => rfl) rfl (fun z1 G2 => ?_)
  refine r_icmp_lt 50 48 dX15_view_45 rfl rfl ?_ ?_
  · refine r_iload_n 51 2 dX15_view_50 rfl rfl rfl ?_
    refine r_istore_n 52 [(3, aI x2), (0, aR 100), (1, aI x1), (2, aI x2)] dX15_view_51 rfl rfl rfl rfl ?_
    refine r_aload_n 53 1 dX15_view_52 rfl rfl rfl ?_
    refine r_get 56 (aR 245) dX15_view_53 fkX15_296 (fun _ => dsT_100 P W _) nn100 rfl rfl ?_
    refine r_iload_n 57 2 dX15_view_56 rfl rfl rfl ?_
    refine r_iald 58 dX15_view_57 (fun _ _ _ => dsT_245 P W _) (fun _ _ => nn245) rfl ?_
    refine r_istore 60 [(4, aI (G2 245 x1)), (3, aI x2), (0, aR 100), (1, aI x1), (2, aI x2)] dX15_view_58 rfl rfl rfl ?_
    refine r_iload_n 61 1 dX15_view_60 rfl rfl rfl ?_
    refine r_iload 63 0 dX15_view_61 rfl rfl ?_
    refine r_aload_n 64 2 dX15_view_63 rfl rfl rfl ?_
    refine r_get 67 (aI P) dX15_view_64 fkX15_299 (fun _ => dsT_100 P W _) nn100 rfl rfl ?_
    refine r_imul 68 dX15_view_67 rfl ?_
    refine r_icmp_ge 234 71 dX15_view_68 rfl rfl ?_ ?_
    · refine r_iload_n 235 1 dX15_view_234 rfl rfl rfl ?_
      refine r_iload 237 0 dX15_view_235 rfl rfl ?_
      refine r_aload_n 238 2 dX15_view_237 rfl rfl rfl ?_
      refine r_get 241 (aI P) dX15_view_238 fkX15_299 (fun _ => dsT_100 P W _) nn100 rfl rfl ?_
      refine r_imul 242 dX15_view_241 rfl ?_
      refine r_isub 243 dX15_view_242 rfl ?_
      refine r_istore_n 244 [(3, aI (x2 - ((G2 245 x1) * P))), (4, aI (G2 245 x1)), (0, aR 100), (1, aI x1), (2, aI x2)] dX15_view_243 rfl rfl rfl rfl ?_
      refine r_iload_n 245 0 dX15_view_244 rfl rfl rfl ?_
      refine r_iconst 246 3 dX15_view_245 rfl rfl ?_
      refine r_aload_n 247 2 dX15_view_246 rfl rfl rfl ?_
      refine r_get 250 (aI (G2 100 67)) dX15_view_247 fkX15_630 (fun _ => dsT_100 P W _) nn100 rfl rfl ?_
      refine r_imul 251 dX15_view_250 rfl ?_
      refine r_icmp_ge 341 254 dX15_view_251 rfl rfl ?_ ?_
      · refine r_iload_n 342 0 dX15_view_341 rfl rfl rfl ?_
        refine r_iconst 343 3 dX15_view_342 rfl rfl ?_
        refine r_aload_n 344 2 dX15_view_343 rfl rfl rfl ?_
        refine r_get 347 (aI (G2 100 67)) dX15_view_344 fkX15_630 (fun _ => dsT_100 P W _) nn100 rfl rfl ?_
        refine r_imul 348 dX15_view_347 rfl ?_
        refine r_isub 349 dX15_view_348 rfl ?_
        refine r_istore_n 350 [(3, aI ((x2 - ((G2 245 x1) * P)) - (3 * (G2 100 67)))), (4, aI (G2 245 x1)), (0, aR 100), (1, aI x1), (2, aI x2)] dX15_view_349 rfl rfl rfl rfl ?_
        refine ss_vlI (fun v3 => ?_)
        refine r_sipush 353 30060 dX15_view_350 rfl rfl ?_
        refine r_iload_n 354 3 dX15_view_353 rfl rfl rfl ?_
        refine r_imul 355 dX15_view_354 rfl ?_
        refine r_istore 357 [(5, aI (30060 * x1)), (3, aI v3), (4, aI (G2 245 x1)), (0, aR 100), (1, aI x1), (2, aI x2)] dX15_view_355 rfl rfl rfl ?_
        refine r_to [3, 4, 1, 0] [(0, aR 100), (1, aI x1), (3, aI v3), (5, aI (30060 * x1))] rfl ?_
        exact sl_Tw_view_357 P W x1 v3 (30060 * x1) G2
      · refine r_iconst 255 0 dX15_view_254 rfl rfl ?_
        refine r_istore 257 [(5, aI 0), (3, aI (x2 - ((G2 245 x1) * P))), (4, aI (G2 245 x1)), (0, aR 100), (1, aI x1), (2, aI x2)] dX15_view_255 rfl rfl rfl ?_
        refine r_iconst 258 0 dX15_view_257 rfl rfl ?_
        refine r_istore 260 [(6, aI 0), (5, aI 0), (3, aI (x2 - ((G2 245 x1) * P))), (4, aI (G2 245 x1)), (0, aR 100), (1, aI x1), (2, aI x2)] dX15_view_258 rfl rfl rfl ?_
        refine r_to [4, 5, 2, 1, 0] [(0, aR 100), (1, aI x1), (3, aI (x2 - ((G2 245 x1) * P))), (5, aI 0), (6, aI 0)] rfl ?_
        exact sl_Tw_view_260 P W x1 (x2 - ((G2 245 x1) * P)) 0 0 G2
    · refine r_iload_n 72 1 dX15_view_71 rfl rfl rfl ?_
      refine r_iload 74 0 dX15_view_72 rfl rfl ?_
      refine SS.phi (fun VV_ => Tw_view_b82 P W x1 x2 (G2 245 x1) VV_ G2) ?_
      refine r_icmp_lt 81 77 dX15_view_74 rfl rfl ?_ ?_
      · refine r_iconst 82 0 dX15_view_81 rfl rfl ?_
        refine r_to [2, 3, 1, 0] [(0, aR 100), (1, aI x1), (3, aI x2), (4, aI (G2 245 x1))] rfl ?_
        exact s_Tw_view_b82 P W x1 x2 (G2 245 x1) 0 G2
      · refine r_iconst 78 1 dX15_view_77 rfl rfl ?_
        refine r_goto 82 dX15_view_78 rfl ?_
        refine r_to [2, 3, 1, 0] [(0, aR 100), (1, aI x1), (3, aI x2), (4, aI (G2 245 x1))] rfl ?_
        exact s_Tw_view_b82 P W x1 x2 (G2 245 x1) 1 G2
  · refine r_iconst 49 (-1) dX15_view_48 rfl rfl ?_
    exact r_ireturn dX15_view_49 rfl
theorem s_Tw_view (P W : Int) (x1 : Int) (x2 : Int) (G : St) : SS (MTw_view P W) some 0 [(0, aR 100), (1, aI x1), (2, aI x2)] [] G (Tw_view P W x1 x2 G) := by
  refine r_aload_n 1 0 dX15_view_0 rfl rfl rfl ?_
  refine r_get 4 (aI (G 100 124)) dX15_view_1 fkX15_762 (fun _ => dsT_100 P W _) nn100 rfl rfl ?_
  refine r_if_eq 48 7 dX15_view_4 rfl rfl ?_ ?_
  · refine r_iconst 49 (-1) dX15_view_48 rfl rfl ?_
    exact r_ireturn dX15_view_49 rfl
  · refine r_iload_n 8 1 dX15_view_7 rfl rfl rfl ?_
    refine r_if_lt 48 11 dX15_view_8 rfl rfl ?_ ?_
    · refine r_iconst 49 (-1) dX15_view_48 rfl rfl ?_
      exact r_ireturn dX15_view_49 rfl
    · refine r_iload_n 12 1 dX15_view_11 rfl rfl rfl ?_
      refine r_aload_n 13 0 dX15_view_12 rfl rfl rfl ?_
      refine r_get 16 (aI P) dX15_view_13 fkX15_299 (fun _ => dsT_100 P W _) nn100 rfl rfl ?_
      refine r_icmp_ge 48 19 dX15_view_16 rfl rfl ?_ ?_
      · refine r_iconst 49 (-1) dX15_view_48 rfl rfl ?_
        exact r_ireturn dX15_view_49 rfl
      · refine r_iload_n 20 2 dX15_view_19 rfl rfl rfl ?_
        refine r_if_lt 48 23 dX15_view_20 rfl rfl ?_ ?_
        · refine r_iconst 49 (-1) dX15_view_48 rfl rfl ?_
          exact r_ireturn dX15_view_49 rfl
        · refine r_iload_n 24 2 dX15_view_23 rfl rfl rfl ?_
          refine r_aload_n 25 0 dX15_view_24 rfl rfl rfl ?_
          refine r_iload_n 26 1 dX15_view_25 rfl rfl rfl ?_
          refine SS.phi (fun VV_ => Tw_view_b42 P W x1 x2 VV_ x2 G) ?_
          refine r_if_lt 41 29 dX15_view_26 rfl rfl ?_ ?_
          · refine r_iconst 42 0 dX15_view_41 rfl rfl ?_
            exact s_Tw_view_b42 P W x1 x2 0 x2 G
          · refine r_iload_n 30 1 dX15_view_29 rfl rfl rfl ?_
            refine r_aload_n 31 0 dX15_view_30 rfl rfl rfl ?_
            refine r_get 34 (aI P) dX15_view_31 fkX15_299 (fun _ => dsT_100 P W _) nn100 rfl rfl ?_
            refine SS.phi (fun VV_ => Tw_view_b42 P W x1 x2 VV_ x2 G) ?_
            refine r_icmp_ge 41 37 dX15_view_34 rfl rfl ?_ ?_
            · refine r_iconst 42 0 dX15_view_41 rfl rfl ?_
              exact s_Tw_view_b42 P W x1 x2 0 x2 G
            · refine r_iload_n 38 1 dX15_view_37 rfl rfl rfl ?_
              refine r_goto 42 dX15_view_38 rfl ?_
              exact s_Tw_view_b42 P W x1 x2 x1 x2 G
theorem c_Tw_view (P W : Int) (x1 : Int) (x2 : Int) (G : St) : MG (MTw_view P W) [aR 100, aI x1, aI x2] G (Tw_view P W x1 x2 G) := MG.of plX15 (Nat.le_of_ble_eq_true rfl) (s_Tw_view P W x1 x2 G)
theorem s_Tw_told_b31 (P W : Int) (G : St) : SS (MTw_told P W) some 31 [] [] G (Tw_told_b31 P W G) := by
  refine r_ldc2 34 (-1) dX15_told_31 q2715 (by decide) rfl rfl ?_
  exact r_lreturn dX15_told_34 rfl
theorem s_Tw_told_s59 (P W : Int) (x2 : Int) (X59 : Int × Int × St → Option (Int × St)) (hX59 : ∀ s, So (MTw_told P W) 59 [(0, aR 100), (2, aI x2), (3, aL (s.1)), (5, aI (s.2.1))] [] s.2.2 (X59 s)) (x3 : Int) (x5 : Int) (G : St) : SS (MTw_told P W) (lk X59 some) 59 [(0, aR 100), (2, aI x2), (3, aL x3), (5, aI x5)] [] G (Tw_told_s59 P W x2 x3 x5 G) := by
  refine r_iload 61 3 dX15_told_59 rfl rfl ?_
  refine r_aload_n 62 0 dX15_told_61 rfl rfl rfl ?_
  refine r_get 65 (aR 182) dX15_told_62 fkX15_151 (fun _ => dsT_100 P W _) nn100 rfl rfl ?_
  refine r_iload_n 66 1 dX15_told_65 rfl rfl rfl ?_
  refine r_iald 67 dX15_told_66 (fun _ _ _ => dsT_182 P W _) (fun _ _ => nn182) rfl ?_
  refine r_icmp_ge 102 70 dX15_told_67 rfl rfl ?_ ?_
  · refine SS.ex ?_
    refine r_lload_n 103 2 dX15_told_102 rfl rfl rfl ?_
    exact r_lreturn dX15_told_103 rfl
  · refine r_lload_n 71 2 dX15_told_70 rfl rfl rfl ?_
    refine r_aload_n 72 0 dX15_told_71 rfl rfl rfl ?_
    refine r_aload_n 73 0 dX15_told_72 rfl rfl rfl ?_
    refine r_get 76 (aR 183) dX15_told_73 fkX15_154 (fun _ => dsT_100 P W _) nn100 rfl rfl ?_
    refine r_bipush 78 32 dX15_told_76 rfl rfl ?_
    refine r_iload_n 79 1 dX15_told_78 rfl rfl rfl ?_
    refine r_imul 80 dX15_told_79 rfl ?_
    refine r_iload 82 3 dX15_told_80 rfl rfl ?_
    refine r_iadd 83 dX15_told_82 rfl ?_
    refine r_iald 84 dX15_told_83 (fun _ _ _ => dsT_183 P W _) (fun _ _ => nn183) rfl ?_
    refine r_callvI 87 (Mc := MTw_shareOf P W) (o := 100) (as := [aI (G 183 ((32 * x2) + x5))]) (st := [aL x3]) dX15_told_84 rfl (c_Tw_shareOf P W (G 183 ((32 * x2) + x5)) G) lkX15_815 (cmTw_shareOf P W) rfl rfl rfl (fun _ => dsT_100 P W _) nn100 rfl (Nat.le_of_ble_eq_true rfl) (Nat.le_of_ble_eq_true rfl) (fun _ => rfl) rfl (fun z1 G2 => ?_)
    refine r_callsI 90 (Mc := MTw_parity P W) (as := [aI z1]) (st := [aL x3]) dX15_told_87 rfl (c_Tw_parity P W z1 G2) q2741 (cmTw_parity P W) rfl rfl rfl (Nat.le_of_ble_eq_true rfl) (Nat.le_of_ble_eq_true rfl) (fun _ => rfl) rfl (fun z3 G4 => ?_)
    refine r_i2l 91 dX15_told_90 rfl ?_
    refine r_iload 93 3 dX15_told_91 rfl rfl ?_
    refine r_lshl 94 dX15_told_93 rfl ?_
    refine r_ladd 95 dX15_told_94 rfl ?_
    refine r_lstore_n 96 [(3, aL (x3 + (j_lsl z3 x5))), (0, aR 100), (2, aI x2), (5, aI x5)] dX15_told_95 rfl rfl rfl rfl ?_
    refine r_iinc 99 [(5, aI (x5 + 1)), (3, aL (x3 + (j_lsl z3 x5))), (0, aR 100), (2, aI x2)] 3 dX15_told_96 rfl rfl rfl rfl ?_
    refine r_goto 59 dX15_told_99 rfl ?_
    refine r_to [2, 3, 1, 0] [(0, aR 100), (2, aI x2), (3, aL (x3 + (j_lsl z3 x5))), (5, aI (x5 + 1))] rfl ?_
    exact SS.back (hX59 (x3 + (j_lsl z3 x5), x5 + 1, G4))
theorem sl_Tw_told_59 (P W : Int) (x2 : Int) (x3 : Int) (x5 : Int) (G : St) : SS (MTw_told P W) some 59 [(0, aR 100), (2, aI x2), (3, aL x3), (5, aI x5)] [] G (Tw_told_l59 P W x2 x3 x5 G) := by
  exact SS.loop (σ := Int × Int × St) (fun s => [(0, aR 100), (2, aI x2), (3, aL (s.1)), (5, aI (s.2.1))]) (fun s => s.2.2) (fun s => Tw_told_s59 P W x2 s.1 s.2.1 s.2.2) (fun X59 hX59 s => s_Tw_told_s59 P W x2  X59 hX59 s.1 s.2.1 s.2.2) (x3, x5, G)
theorem s_Tw_told (P W : Int) (x1 : Int) (x2 : Int) (G : St) : SS (MTw_told P W) some 0 [(0, aR 100), (1, aI x1), (2, aI x2)] [] G (Tw_told P W x1 x2 G) := by
  refine r_aload_n 1 0 dX15_told_0 rfl rfl rfl ?_
  refine r_get 4 (aI (G 100 124)) dX15_told_1 fkX15_762 (fun _ => dsT_100 P W _) nn100 rfl rfl ?_
  refine r_if_eq 31 7 dX15_told_4 rfl rfl ?_ ?_
  · refine r_to [] [] rfl ?_
    exact s_Tw_told_b31 P W G
  · refine r_iload_n 8 1 dX15_told_7 rfl rfl rfl ?_
    refine r_if_lt 31 11 dX15_told_8 rfl rfl ?_ ?_
    · refine r_to [] [] rfl ?_
      exact s_Tw_told_b31 P W G
    · refine r_iload_n 12 1 dX15_told_11 rfl rfl rfl ?_
      refine r_aload_n 13 0 dX15_told_12 rfl rfl rfl ?_
      refine r_get 16 (aI P) dX15_told_13 fkX15_299 (fun _ => dsT_100 P W _) nn100 rfl rfl ?_
      refine r_icmp_ge 31 19 dX15_told_16 rfl rfl ?_ ?_
      · refine r_to [] [] rfl ?_
        exact s_Tw_told_b31 P W G
      · refine r_iload_n 20 2 dX15_told_19 rfl rfl rfl ?_
        refine r_if_lt 31 23 dX15_told_20 rfl rfl ?_ ?_
        · refine r_to [] [] rfl ?_
          exact s_Tw_told_b31 P W G
        · refine r_iload_n 24 2 dX15_told_23 rfl rfl rfl ?_
          refine r_aload_n 25 0 dX15_told_24 rfl rfl rfl ?_
          refine r_get 28 (aI (G 100 69)) dX15_told_25 fkX15_672 (fun _ => dsT_100 P W _) nn100 rfl rfl ?_
          refine r_icmp_lt 35 31 dX15_told_28 rfl rfl ?_ ?_
          · refine r_aload_n 36 0 dX15_told_35 rfl rfl rfl ?_
            refine r_get 39 (aR 233) dX15_told_36 fkX15_265 (fun _ => dsT_100 P W _) nn100 rfl rfl ?_
            refine r_iload_n 40 1 dX15_told_39 rfl rfl rfl ?_
            refine r_iald 41 dX15_told_40 (fun _ _ _ => dsT_233 P W _) (fun _ _ => nn233) rfl ?_
            refine r_aload_n 42 0 dX15_told_41 rfl rfl rfl ?_
            refine r_get 45 (aI (G 100 68)) dX15_told_42 fkX15_633 (fun _ => dsT_100 P W _) nn100 rfl rfl ?_
            refine r_iconst 46 2 dX15_told_45 rfl rfl ?_
            refine r_iadd 47 dX15_told_46 rfl ?_
            refine r_icmp_ge 54 50 dX15_told_47 rfl rfl ?_ ?_
            · refine r_lconst 55 0 dX15_told_54 rfl rfl rfl ?_
              refine r_lstore_n 56 [(3, aL 0), (0, aR 100), (1, aI x1), (2, aI x2)] dX15_told_55 rfl rfl rfl rfl ?_
              refine r_iconst 57 0 dX15_told_56 rfl rfl ?_
              refine r_istore 59 [(5, aI 0), (3, aL 0), (0, aR 100), (1, aI x1), (2, aI x2)] dX15_told_57 rfl rfl rfl ?_
              refine r_to [2, 4, 1, 0] [(0, aR 100), (2, aI x2), (3, aL 0), (5, aI 0)] rfl ?_
              exact sl_Tw_told_59 P W x2 0 0 G
            · refine r_ldc2 53 (-1) dX15_told_50 q2715 (by decide) rfl rfl ?_
              exact r_lreturn dX15_told_53 rfl
          · refine r_to [] [] rfl ?_
            exact s_Tw_told_b31 P W G
theorem c_Tw_told (P W : Int) (x1 : Int) (x2 : Int) (G : St) : MG (MTw_told P W) [aR 100, aI x1, aI x2] G (Tw_told P W x1 x2 G) := MG.of plX15 (Nat.le_of_ble_eq_true rfl) (s_Tw_told P W x1 x2 G)
theorem s_Tw_inputWord (P W : Int) (x1 : Int) (G : St) : SS (MTw_inputWord P W) some 0 [(0, aR 100), (1, aI x1)] [] G (Tw_inputWord x1 G) := by
  refine r_aload_n 1 0 dX15_inputWord_0 rfl rfl rfl ?_
  refine r_get 4 (aI (G 100 124)) dX15_inputWord_1 fkX15_762 (fun _ => dsT_100 P W _) nn100 rfl rfl ?_
  refine r_if_eq 16 7 dX15_inputWord_4 rfl rfl ?_ ?_
  · refine r_aload_n 17 0 dX15_inputWord_16 rfl rfl rfl ?_
    refine r_get 20 (aR 180) dX15_inputWord_17 fkX15_145 (fun _ => dsT_100 P W _) nn100 rfl rfl ?_
    refine r_iload_n 21 1 dX15_inputWord_20 rfl rfl rfl ?_
    refine r_lald 22 dX15_inputWord_21 (fun _ _ _ => dsT_180 P W _) (fun _ _ => nn180) rfl ?_
    exact r_lreturn dX15_inputWord_22 rfl
  · refine r_aload_n 8 0 dX15_inputWord_7 rfl rfl rfl ?_
    refine r_get 11 (aR 181) dX15_inputWord_8 fkX15_148 (fun _ => dsT_100 P W _) nn100 rfl rfl ?_
    refine r_iload_n 12 1 dX15_inputWord_11 rfl rfl rfl ?_
    refine r_lald 13 dX15_inputWord_12 (fun _ _ _ => dsT_181 P W _) (fun _ _ => nn181) rfl ?_
    refine r_goto 22 dX15_inputWord_13 rfl ?_
    exact r_lreturn dX15_inputWord_22 rfl
theorem c_Tw_inputWord (P W : Int) (x1 : Int) (G : St) : MG (MTw_inputWord P W) [aR 100, aI x1] G (Tw_inputWord x1 G) := MG.of plX15 (Nat.le_of_ble_eq_true rfl) (s_Tw_inputWord P W x1 G)
theorem s_Tw_signed (P W : Int) (x1 : Int) (G : St) : SS (MTw_signed P W) some 0 [(0, aR 100), (1, aL x1)] [] G (Tw_signed P W x1 G) := by
  refine r_lload_n 1 1 dX15_signed_0 rfl rfl rfl ?_
  refine r_aload_n 2 0 dX15_signed_1 rfl rfl rfl ?_
  refine r_get 5 (aI W) dX15_signed_2 fkX15_303 (fun _ => dsT_100 P W _) nn100 rfl rfl ?_
  refine r_iconst 6 1 dX15_signed_5 rfl rfl ?_
  refine r_isub 7 dX15_signed_6 rfl ?_
  refine r_lshr 8 dX15_signed_7 rfl ?_
  refine r_lconst 9 1 dX15_signed_8 rfl rfl rfl ?_
  refine r_lif_ne 10 24 13 dX15_signed_9 rfl dX15_signed_10 rfl rfl ?_ ?_
  · refine r_lload_n 25 1 dX15_signed_24 rfl rfl rfl ?_
    exact r_lreturn dX15_signed_25 rfl
  · refine r_lload_n 14 1 dX15_signed_13 rfl rfl rfl ?_
    refine r_lconst 15 1 dX15_signed_14 rfl rfl rfl ?_
    refine r_aload_n 16 0 dX15_signed_15 rfl rfl rfl ?_
    refine r_get 19 (aI W) dX15_signed_16 fkX15_303 (fun _ => dsT_100 P W _) nn100 rfl rfl ?_
    refine r_lshl 20 dX15_signed_19 rfl ?_
    refine r_lsub 21 dX15_signed_20 rfl ?_
    refine r_goto 25 dX15_signed_21 rfl ?_
    exact r_lreturn dX15_signed_25 rfl
theorem c_Tw_signed (P W : Int) (x1 : Int) (G : St) : MG (MTw_signed P W) [aR 100, aL x1] G (Tw_signed P W x1 G) := MG.of plX15 (Nat.le_of_ble_eq_true rfl) (s_Tw_signed P W x1 G)
theorem s_Tw_meanBinary_b84 (P W : Int) (x2 : Int) (x4 : Int) (G : St) : SS (MTw_meanBinary P W) some 84 [(2, aL x2), (4, aL x4)] [] G (Tw_meanBinary_b84 P W x2 x4 G) := by
  refine r_lload_n 85 0 dX15_meanBinary_84 rfl rfl rfl ?_
  refine r_lload 87 1 dX15_meanBinary_85 rfl rfl ?_
  refine r_lor 88 dX15_meanBinary_87 rfl ?_
  exact r_lreturn dX15_meanBinary_88 rfl
theorem s_Tw_meanBinary_b89 (P W : Int) (x2 : Int) (x4 : Int) (G : St) : SS (MTw_meanBinary P W) some 89 [(2, aL x2), (4, aL x4)] [] G (Tw_meanBinary_b89 P W x2 x4 G) := by
  refine r_lload_n 90 0 dX15_meanBinary_89 rfl rfl rfl ?_
  refine r_lload 92 1 dX15_meanBinary_90 rfl rfl ?_
  refine r_land 93 dX15_meanBinary_92 rfl ?_
  exact r_lreturn dX15_meanBinary_93 rfl
theorem s_Tw_meanBinary_b94 (P W : Int) (x2 : Int) (x4 : Int) (G : St) : SS (MTw_meanBinary P W) some 94 [(2, aL x2), (4, aL x4)] [] G (Tw_meanBinary_b94 P W x2 x4 G) := by
  refine r_lload_n 95 0 dX15_meanBinary_94 rfl rfl rfl ?_
  refine r_lload 97 1 dX15_meanBinary_95 rfl rfl ?_
  refine r_lxor 98 dX15_meanBinary_97 rfl ?_
  exact r_lreturn dX15_meanBinary_98 rfl
theorem s_Tw_meanBinary_b99 (P W : Int) (x2 : Int) (x4 : Int) (G : St) : SS (MTw_meanBinary P W) some 99 [(2, aL x2), (4, aL x4)] [] G (Tw_meanBinary_b99 P W x2 x4 G) := by
  refine r_lload_n 100 0 dX15_meanBinary_99 rfl rfl rfl ?_
  refine r_lload 102 1 dX15_meanBinary_100 rfl rfl ?_
  refine SS.phi (fun VV_ => some (VV_, G)) ?_
  refine r_lif_ne 103 110 106 dX15_meanBinary_102 rfl dX15_meanBinary_103 rfl rfl ?_ ?_
  · refine r_lconst 111 0 dX15_meanBinary_110 rfl rfl rfl ?_
    exact r_lreturn dX15_meanBinary_111 rfl
  · refine r_lconst 107 1 dX15_meanBinary_106 rfl rfl rfl ?_
    refine r_goto 111 dX15_meanBinary_107 rfl ?_
    exact r_lreturn dX15_meanBinary_111 rfl
theorem s_Tw_meanBinary_b112 (P W : Int) (x2 : Int) (x4 : Int) (G : St) : SS (MTw_meanBinary P W) some 112 [(2, aL x2), (4, aL x4)] [] G (Tw_meanBinary_b112 P W x2 x4 G) := by
  refine r_lload_n 113 0 dX15_meanBinary_112 rfl rfl rfl ?_
  refine r_lload 115 1 dX15_meanBinary_113 rfl rfl ?_
  refine SS.phi (fun VV_ => some (VV_, G)) ?_
  refine r_lif_ne 116 123 119 dX15_meanBinary_115 rfl dX15_meanBinary_116 rfl rfl ?_ ?_
  · refine r_lconst 124 1 dX15_meanBinary_123 rfl rfl rfl ?_
    exact r_lreturn dX15_meanBinary_124 rfl
  · refine r_lconst 120 0 dX15_meanBinary_119 rfl rfl rfl ?_
    refine r_goto 124 dX15_meanBinary_120 rfl ?_
    exact r_lreturn dX15_meanBinary_124 rfl
theorem s_Tw_meanBinary_b125 (P W : Int) (x2 : Int) (x4 : Int) (G : St) : SS (MTw_meanBinary P W) some 125 [(0, aR 100), (2, aL x2), (4, aL x4)] [] G (Tw_meanBinary_b125 P W x2 x4 G) := by
  refine r_aload_n 126 0 dX15_meanBinary_125 rfl rfl rfl ?_
  refine r_lload_n 127 1 dX15_meanBinary_126 rfl rfl rfl ?_
  refine r_callvL 130 (Mc := MTw_signed P W) (o := 100) (as := [aL x2]) (st := []) dX15_meanBinary_127 rfl (c_Tw_signed P W x2 G) lkX15_793 (cmTw_signed P W) rfl rfl rfl (fun _ => dsT_100 P W _) nn100 rfl (Nat.le_of_ble_eq_true rfl) (Nat.le_of_ble_eq_true rfl) (fun _ => rfl) rfl (fun z1 G2 => ?_)
  refine r_aload_n 131 0 dX15_meanBinary_130 rfl rfl rfl ?_
  refine r_lload 133 2 dX15_meanBinary_131 rfl rfl ?_
  refine r_callvL 136 (Mc := MTw_signed P W) (o := 100) (as := [aL x4]) (st := [aL z1]) dX15_meanBinary_133 rfl (c_Tw_signed P W x4 G2) lkX15_793 (cmTw_signed P W) rfl rfl rfl (fun _ => dsT_100 P W _) nn100 rfl (Nat.le_of_ble_eq_true rfl) (Nat.le_of_ble_eq_true rfl) (fun _ => rfl) rfl (fun z3 G4 => ?_)
  refine SS.phi (fun VV_ => some (VV_, G4)) ?_
  refine r_lif_ge 137 144 140 dX15_meanBinary_136 rfl dX15_meanBinary_137 rfl rfl ?_ ?_
  · refine r_lconst 145 0 dX15_meanBinary_144 rfl rfl rfl ?_
    exact r_lreturn dX15_meanBinary_145 rfl
  · refine r_lconst 141 1 dX15_meanBinary_140 rfl rfl rfl ?_
    refine r_goto 145 dX15_meanBinary_141 rfl ?_
    exact r_lreturn dX15_meanBinary_145 rfl
theorem s_Tw_meanBinary_b146 (P W : Int) (x2 : Int) (x4 : Int) (G : St) : SS (MTw_meanBinary P W) some 146 [(0, aR 100), (2, aL x2), (4, aL x4)] [] G (Tw_meanBinary_b146 P W x2 x4 G) := by
  refine r_aload_n 147 0 dX15_meanBinary_146 rfl rfl rfl ?_
  refine r_lload_n 148 1 dX15_meanBinary_147 rfl rfl rfl ?_
  refine r_callvL 151 (Mc := MTw_signed P W) (o := 100) (as := [aL x2]) (st := []) dX15_meanBinary_148 rfl (c_Tw_signed P W x2 G) lkX15_793 (cmTw_signed P W) rfl rfl rfl (fun _ => dsT_100 P W _) nn100 rfl (Nat.le_of_ble_eq_true rfl) (Nat.le_of_ble_eq_true rfl) (fun _ => rfl) rfl (fun z5 G6 => ?_)
  refine r_aload_n 152 0 dX15_meanBinary_151 rfl rfl rfl ?_
  refine r_lload 154 2 dX15_meanBinary_152 rfl rfl ?_
  refine r_callvL 157 (Mc := MTw_signed P W) (o := 100) (as := [aL x4]) (st := [aL z5]) dX15_meanBinary_154 rfl (c_Tw_signed P W x4 G6) lkX15_793 (cmTw_signed P W) rfl rfl rfl (fun _ => dsT_100 P W _) nn100 rfl (Nat.le_of_ble_eq_true rfl) (Nat.le_of_ble_eq_true rfl) (fun _ => rfl) rfl (fun z7 G8 => ?_)
  refine SS.phi (fun VV_ => some (VV_, G8)) ?_
  refine r_lif_gt 158 165 161 dX15_meanBinary_157 rfl dX15_meanBinary_158 rfl rfl ?_ ?_
  · refine r_lconst 166 0 dX15_meanBinary_165 rfl rfl rfl ?_
    exact r_lreturn dX15_meanBinary_166 rfl
  · refine r_lconst 162 1 dX15_meanBinary_161 rfl rfl rfl ?_
    refine r_goto 166 dX15_meanBinary_162 rfl ?_
    exact r_lreturn dX15_meanBinary_166 rfl
theorem s_Tw_meanBinary_b167 (P W : Int) (x2 : Int) (x4 : Int) (G : St) : SS (MTw_meanBinary P W) some 167 [(0, aR 100), (2, aL x2), (4, aL x4)] [] G (Tw_meanBinary_b167 P W x2 x4 G) := by
  refine r_aload_n 168 0 dX15_meanBinary_167 rfl rfl rfl ?_
  refine r_lload_n 169 1 dX15_meanBinary_168 rfl rfl rfl ?_
  refine r_callvL 172 (Mc := MTw_signed P W) (o := 100) (as := [aL x2]) (st := []) dX15_meanBinary_169 rfl (c_Tw_signed P W x2 G) lkX15_793 (cmTw_signed P W) rfl rfl rfl (fun _ => dsT_100 P W _) nn100 rfl (Nat.le_of_ble_eq_true rfl) (Nat.le_of_ble_eq_true rfl) (fun _ => rfl) rfl (fun z9 G10 => ?_)
  refine r_aload_n 173 0 dX15_meanBinary_172 rfl rfl rfl ?_
  refine r_lload 175 2 dX15_meanBinary_173 rfl rfl ?_
  refine r_callvL 178 (Mc := MTw_signed P W) (o := 100) (as := [aL x4]) (st := [aL z9]) dX15_meanBinary_175 rfl (c_Tw_signed P W x4 G10) lkX15_793 (cmTw_signed P W) rfl rfl rfl (fun _ => dsT_100 P W _) nn100 rfl (Nat.le_of_ble_eq_true rfl) (Nat.le_of_ble_eq_true rfl) (fun _ => rfl) rfl (fun z11 G12 => ?_)
  refine SS.phi (fun VV_ => some (VV_, G12)) ?_
  refine r_lif_le 179 186 182 dX15_meanBinary_178 rfl dX15_meanBinary_179 rfl rfl ?_ ?_
  · refine r_lconst 187 0 dX15_meanBinary_186 rfl rfl rfl ?_
    exact r_lreturn dX15_meanBinary_187 rfl
  · refine r_lconst 183 1 dX15_meanBinary_182 rfl rfl rfl ?_
    refine r_goto 187 dX15_meanBinary_183 rfl ?_
    exact r_lreturn dX15_meanBinary_187 rfl
theorem s_Tw_meanBinary_b188 (P W : Int) (x2 : Int) (x4 : Int) (G : St) : SS (MTw_meanBinary P W) some 188 [(0, aR 100), (2, aL x2), (4, aL x4)] [] G (Tw_meanBinary_b188 P W x2 x4 G) := by
  refine r_aload_n 189 0 dX15_meanBinary_188 rfl rfl rfl ?_
  refine r_lload_n 190 1 dX15_meanBinary_189 rfl rfl rfl ?_
  refine r_callvL 193 (Mc := MTw_signed P W) (o := 100) (as := [aL x2]) (st := []) dX15_meanBinary_190 rfl (c_Tw_signed P W x2 G) lkX15_793 (cmTw_signed P W) rfl rfl rfl (fun _ => dsT_100 P W _) nn100 rfl (Nat.le_of_ble_eq_true rfl) (Nat.le_of_ble_eq_true rfl) (fun _ => rfl) rfl (fun z13 G14 => ?_)
  refine r_aload_n 194 0 dX15_meanBinary_193 rfl rfl rfl ?_
  refine r_lload 196 2 dX15_meanBinary_194 rfl rfl ?_
  refine r_callvL 199 (Mc := MTw_signed P W) (o := 100) (as := [aL x4]) (st := [aL z13]) dX15_meanBinary_196 rfl (c_Tw_signed P W x4 G14) lkX15_793 (cmTw_signed P W) rfl rfl rfl (fun _ => dsT_100 P W _) nn100 rfl (Nat.le_of_ble_eq_true rfl) (Nat.le_of_ble_eq_true rfl) (fun _ => rfl) rfl (fun z15 G16 => ?_)
  refine SS.phi (fun VV_ => some (VV_, G16)) ?_
  refine r_lif_lt 200 207 203 dX15_meanBinary_199 rfl dX15_meanBinary_200 rfl rfl ?_ ?_
  · refine r_lconst 208 0 dX15_meanBinary_207 rfl rfl rfl ?_
    exact r_lreturn dX15_meanBinary_208 rfl
  · refine r_lconst 204 1 dX15_meanBinary_203 rfl rfl rfl ?_
    refine r_goto 208 dX15_meanBinary_204 rfl ?_
    exact r_lreturn dX15_meanBinary_208 rfl
theorem s_Tw_meanBinary_b209 (P W : Int) (x2 : Int) (x4 : Int) (G : St) : SS (MTw_meanBinary P W) some 209 [(0, aR 100), (2, aL x2), (4, aL x4)] [] G (Tw_meanBinary_b209 P W x2 x4 G) := by
  refine r_lload_n 210 1 dX15_meanBinary_209 rfl rfl rfl ?_
  refine r_lload 212 2 dX15_meanBinary_210 rfl rfl ?_
  refine r_l2iw 213 dX15_meanBinary_212 rfl ?_
  refine r_lshl 214 dX15_meanBinary_213 rfl ?_
  refine r_aload_n 215 0 dX15_meanBinary_214 rfl rfl rfl ?_
  refine r_get 218 (aL (2 ^ W.toNat - 1)) dX15_meanBinary_215 fkX15_306 (fun _ => dsT_100 P W _) nn100 rfl rfl ?_
  refine r_land 219 dX15_meanBinary_218 rfl ?_
  exact r_lreturn dX15_meanBinary_219 rfl
theorem s_Tw_meanBinary_b220 (P W : Int) (x2 : Int) (x4 : Int) (G : St) : SS (MTw_meanBinary P W) some 220 [(2, aL x2), (4, aL x4)] [] G (Tw_meanBinary_b220 P W x2 x4 G) := by
  refine r_lload_n 221 0 dX15_meanBinary_220 rfl rfl rfl ?_
  refine r_lload 223 1 dX15_meanBinary_221 rfl rfl ?_
  refine r_l2iw 224 dX15_meanBinary_223 rfl ?_
  refine r_lshr 225 dX15_meanBinary_224 rfl ?_
  exact r_lreturn dX15_meanBinary_225 rfl
theorem s_Tw_meanBinary_b226 (P W : Int) (x2 : Int) (x4 : Int) (G : St) : SS (MTw_meanBinary P W) some 226 [(0, aR 100), (2, aL x2), (4, aL x4)] [] G (Tw_meanBinary_b226 P W x2 x4 G) := by
  refine r_lload_n 227 1 dX15_meanBinary_226 rfl rfl rfl ?_
  refine r_lload 229 2 dX15_meanBinary_227 rfl rfl ?_
  refine r_ladd 230 dX15_meanBinary_229 rfl ?_
  refine r_aload_n 231 0 dX15_meanBinary_230 rfl rfl rfl ?_
  refine r_get 234 (aL (2 ^ W.toNat - 1)) dX15_meanBinary_231 fkX15_306 (fun _ => dsT_100 P W _) nn100 rfl rfl ?_
  refine r_land 235 dX15_meanBinary_234 rfl ?_
  exact r_lreturn dX15_meanBinary_235 rfl
theorem s_Tw_meanBinary_b236 (P W : Int) (x2 : Int) (x4 : Int) (G : St) : SS (MTw_meanBinary P W) some 236 [(0, aR 100), (2, aL x2), (4, aL x4)] [] G (Tw_meanBinary_b236 P W x2 x4 G) := by
  refine r_lload_n 237 1 dX15_meanBinary_236 rfl rfl rfl ?_
  refine r_lload 239 2 dX15_meanBinary_237 rfl rfl ?_
  refine r_lsub 240 dX15_meanBinary_239 rfl ?_
  refine r_aload_n 241 0 dX15_meanBinary_240 rfl rfl rfl ?_
  refine r_get 244 (aL (2 ^ W.toNat - 1)) dX15_meanBinary_241 fkX15_306 (fun _ => dsT_100 P W _) nn100 rfl rfl ?_
  refine r_land 245 dX15_meanBinary_244 rfl ?_
  exact r_lreturn dX15_meanBinary_245 rfl
theorem s_Tw_meanBinary_b246 (P W : Int) (x2 : Int) (x4 : Int) (G : St) : SS (MTw_meanBinary P W) some 246 [(0, aR 100), (2, aL x2), (4, aL x4)] [] G (Tw_meanBinary_b246 P W x2 x4 G) := by
  refine r_lload_n 247 1 dX15_meanBinary_246 rfl rfl rfl ?_
  refine r_lload 249 2 dX15_meanBinary_247 rfl rfl ?_
  refine r_lmulw 250 dX15_meanBinary_249 rfl ?_
  refine r_aload_n 251 0 dX15_meanBinary_250 rfl rfl rfl ?_
  refine r_get 254 (aL (2 ^ W.toNat - 1)) dX15_meanBinary_251 fkX15_306 (fun _ => dsT_100 P W _) nn100 rfl rfl ?_
  refine r_land 255 dX15_meanBinary_254 rfl ?_
  exact r_lreturn dX15_meanBinary_255 rfl
theorem s_Tw_meanBinary_b256 (P W : Int) (x2 : Int) (x4 : Int) (G : St) : SS (MTw_meanBinary P W) some 256 [(0, aR 100), (2, aL x2), (4, aL x4)] [] G (Tw_meanBinary_b256 P W x2 x4 G) := by
  refine r_lload 258 2 dX15_meanBinary_256 rfl rfl ?_
  refine r_lconst 259 0 dX15_meanBinary_258 rfl rfl rfl ?_
  refine r_lif_ne 260 270 263 dX15_meanBinary_259 rfl dX15_meanBinary_260 rfl rfl ?_ ?_
  · refine r_lload_n 271 1 dX15_meanBinary_270 rfl rfl rfl ?_
    refine r_lload 273 2 dX15_meanBinary_271 rfl rfl ?_
    refine r_ldiv 274 dX15_meanBinary_273 rfl ?_
    exact r_lreturn dX15_meanBinary_274 rfl
  · refine r_aload_n 264 0 dX15_meanBinary_263 rfl rfl rfl ?_
    refine r_get 267 (aL (2 ^ W.toNat - 1)) dX15_meanBinary_264 fkX15_306 (fun _ => dsT_100 P W _) nn100 rfl rfl ?_
    refine r_goto 274 dX15_meanBinary_267 rfl ?_
    exact r_lreturn dX15_meanBinary_274 rfl
theorem s_Tw_meanBinary_b275 (P W : Int) (x2 : Int) (x4 : Int) (G : St) : SS (MTw_meanBinary P W) some 275 [(2, aL x2), (4, aL x4)] [] G (Tw_meanBinary_b275 P W x2 x4 G) := by
  refine r_lload 277 1 dX15_meanBinary_275 rfl rfl ?_
  refine r_lconst 278 0 dX15_meanBinary_277 rfl rfl rfl ?_
  refine r_lif_ne 279 286 282 dX15_meanBinary_278 rfl dX15_meanBinary_279 rfl rfl ?_ ?_
  · refine r_lload_n 287 0 dX15_meanBinary_286 rfl rfl rfl ?_
    refine r_lload 289 1 dX15_meanBinary_287 rfl rfl ?_
    refine r_lrem 290 dX15_meanBinary_289 rfl ?_
    exact r_lreturn dX15_meanBinary_290 rfl
  · refine r_lload_n 283 0 dX15_meanBinary_282 rfl rfl rfl ?_
    refine r_goto 290 dX15_meanBinary_283 rfl ?_
    exact r_lreturn dX15_meanBinary_290 rfl
theorem s_Tw_meanBinary (P W : Int) (x1 : Int) (x2 : Int) (x4 : Int) (G : St) : SS (MTw_meanBinary P W) some 0 [(0, aR 100), (1, aI x1), (2, aL x2), (4, aL x4)] [] G (Tw_meanBinary P W x1 x2 x4 G) := by
  refine r_iload_n 1 1 dX15_meanBinary_0 rfl rfl rfl ?_
  refine r_tsw 275 [(84, Tw_meanBinary_b84 P W x2 x4 G), (89, Tw_meanBinary_b89 P W x2 x4 G), (84, Tw_meanBinary_b84 P W x2 x4 G), (94, Tw_meanBinary_b94 P W x2 x4 G), (89, Tw_meanBinary_b89 P W x2 x4 G), (99, Tw_meanBinary_b99 P W x2 x4 G), (112, Tw_meanBinary_b112 P W x2 x4 G), (125, Tw_meanBinary_b125 P W x2 x4 G), (146, Tw_meanBinary_b146 P W x2 x4 G), (167, Tw_meanBinary_b167 P W x2 x4 G), (188, Tw_meanBinary_b188 P W x2 x4 G), (209, Tw_meanBinary_b209 P W x2 x4 G), (220, Tw_meanBinary_b220 P W x2 x4 G), (226, Tw_meanBinary_b226 P W x2 x4 G), (236, Tw_meanBinary_b236 P W x2 x4 G), (246, Tw_meanBinary_b246 P W x2 x4 G), (256, Tw_meanBinary_b256 P W x2 x4 G)] dX15_meanBinary_1 rfl rfl rfl ⟨?_, ?_, ?_, ?_, ?_, ?_, ?_, ?_, ?_, ?_, ?_, ?_, ?_, ?_, ?_, ?_, ?_, trivial⟩ ?_
  · refine r_to [2, 3] [(2, aL x2), (4, aL x4)] rfl ?_
    exact s_Tw_meanBinary_b84 P W x2 x4 G
  · refine r_to [2, 3] [(2, aL x2), (4, aL x4)] rfl ?_
    exact s_Tw_meanBinary_b89 P W x2 x4 G
  · refine r_to [2, 3] [(2, aL x2), (4, aL x4)] rfl ?_
    exact s_Tw_meanBinary_b84 P W x2 x4 G
  · refine r_to [2, 3] [(2, aL x2), (4, aL x4)] rfl ?_
    exact s_Tw_meanBinary_b94 P W x2 x4 G
  · refine r_to [2, 3] [(2, aL x2), (4, aL x4)] rfl ?_
    exact s_Tw_meanBinary_b89 P W x2 x4 G
  · refine r_to [2, 3] [(2, aL x2), (4, aL x4)] rfl ?_
    exact s_Tw_meanBinary_b99 P W x2 x4 G
  · refine r_to [2, 3] [(2, aL x2), (4, aL x4)] rfl ?_
    exact s_Tw_meanBinary_b112 P W x2 x4 G
  · refine r_to [0, 2, 3] [(0, aR 100), (2, aL x2), (4, aL x4)] rfl ?_
    exact s_Tw_meanBinary_b125 P W x2 x4 G
  · refine r_to [0, 2, 3] [(0, aR 100), (2, aL x2), (4, aL x4)] rfl ?_
    exact s_Tw_meanBinary_b146 P W x2 x4 G
  · refine r_to [0, 2, 3] [(0, aR 100), (2, aL x2), (4, aL x4)] rfl ?_
    exact s_Tw_meanBinary_b167 P W x2 x4 G
  · refine r_to [0, 2, 3] [(0, aR 100), (2, aL x2), (4, aL x4)] rfl ?_
    exact s_Tw_meanBinary_b188 P W x2 x4 G
  · refine r_to [0, 2, 3] [(0, aR 100), (2, aL x2), (4, aL x4)] rfl ?_
    exact s_Tw_meanBinary_b209 P W x2 x4 G
  · refine r_to [2, 3] [(2, aL x2), (4, aL x4)] rfl ?_
    exact s_Tw_meanBinary_b220 P W x2 x4 G
  · refine r_to [0, 2, 3] [(0, aR 100), (2, aL x2), (4, aL x4)] rfl ?_
    exact s_Tw_meanBinary_b226 P W x2 x4 G
  · refine r_to [0, 2, 3] [(0, aR 100), (2, aL x2), (4, aL x4)] rfl ?_
    exact s_Tw_meanBinary_b236 P W x2 x4 G
  · refine r_to [0, 2, 3] [(0, aR 100), (2, aL x2), (4, aL x4)] rfl ?_
    exact s_Tw_meanBinary_b246 P W x2 x4 G
  · refine r_to [0, 2, 3] [(0, aR 100), (2, aL x2), (4, aL x4)] rfl ?_
    exact s_Tw_meanBinary_b256 P W x2 x4 G
  · refine r_to [2, 3] [(2, aL x2), (4, aL x4)] rfl ?_
    exact s_Tw_meanBinary_b275 P W x2 x4 G
theorem c_Tw_meanBinary (P W : Int) (x1 : Int) (x2 : Int) (x4 : Int) (G : St) : MG (MTw_meanBinary P W) [aR 100, aI x1, aL x2, aL x4] G (Tw_meanBinary P W x1 x2 x4 G) := MG.of plX15 (Nat.le_of_ble_eq_true rfl) (s_Tw_meanBinary P W x1 x2 x4 G)
theorem s_Tw_pushWord (P W : Int) (x1 : Int) (G : St) : SS (MTw_pushWord P W) some 0 [(0, aR 100), (1, aL x1)] [] G (Tw_pushWord x1 G) := by
  refine r_aload_n 1 0 dX15_pushWord_0 rfl rfl rfl ?_
  refine r_get 4 (aR 215) dX15_pushWord_1 fkX15_234 (fun _ => dsT_100 P W _) nn100 rfl rfl ?_
  refine r_aload_n 5 0 dX15_pushWord_4 rfl rfl rfl ?_
  refine r_get 8 (aI (G 100 115)) dX15_pushWord_5 fkX15_765 (fun _ => dsT_100 P W _) nn100 rfl rfl ?_
  refine r_lload_n 9 1 dX15_pushWord_8 rfl rfl rfl ?_
  refine r_last 10 dX15_pushWord_9 (fun _ _ _ => dsT_215 P W _) (fun _ _ => nn215) rfl ?_
  refine ss_tk (fun G1 => ?_)
  refine r_aload_n 11 0 dX15_pushWord_10 rfl rfl rfl ?_
  refine r_dup 12 dX15_pushWord_11 rfl rfl ?_
  refine r_get 15 (aI (G1 100 115)) dX15_pushWord_12 fkX15_765 (fun _ => dsT_100 P W _) nn100 rfl rfl ?_
  refine r_iconst 16 1 dX15_pushWord_15 rfl rfl ?_
  refine r_iadd 17 dX15_pushWord_16 rfl ?_
  refine r_putI 20 dX15_pushWord_17 fkX15_765 (fun _ => dsT_100 P W _) nn100 rfl rfl ?_
  refine ss_tk (fun G2 => ?_)
  exact r_return dX15_pushWord_20 rfl
theorem c_Tw_pushWord (P W : Int) (x1 : Int) (G : St) : MG (MTw_pushWord P W) [aR 100, aL x1] G (Tw_pushWord x1 G) := MG.of plX15 (Nat.le_of_ble_eq_true rfl) (s_Tw_pushWord P W x1 G)
theorem s_Tw_meanOperand_b596 (P W : Int) (x1 : Int) (G : St) : SS (MTw_meanOperand P W) some 596 [(1, aI x1)] [] G (Tw_meanOperand_b596 P W x1 G) := by
  refine r_iload_n 597 0 dX15_meanOperand_596 rfl rfl rfl ?_
  refine r_iconst 598 1 dX15_meanOperand_597 rfl rfl ?_
  refine r_iadd 599 dX15_meanOperand_598 rfl ?_
  exact r_ireturn dX15_meanOperand_599 rfl
theorem s_Tw_meanOperand_b72 (P W : Int) (x1 : Int) (G : St) : SS (MTw_meanOperand P W) some 72 [(0, aR 100), (1, aI x1)] [] G (Tw_meanOperand_b72 P W x1 G) := by
  refine r_aload_n 73 0 dX15_meanOperand_72 rfl rfl rfl ?_
  refine r_aload_n 74 0 dX15_meanOperand_73 rfl rfl rfl ?_
  refine r_get 77 (aR 119) dX15_meanOperand_74 fkX15_34 (fun _ => dsT_100 P W _) nn100 rfl rfl ?_
  refine r_iload_n 78 1 dX15_meanOperand_77 rfl rfl rfl ?_
  refine r_lald 79 dX15_meanOperand_78 (fun _ _ _ => dsT_119 P W _) (fun _ _ => nn119) rfl ?_
  refine r_callvV 82 (Mc := MTw_pushWord P W) (o := 100) (as := [aL (G 119 x1)]) (st := []) dX15_meanOperand_79 rfl (c_Tw_pushWord P W (G 119 x1) G) lkX15_780 (cmTw_pushWord P W) rfl rfl rfl (fun _ => dsT_100 P W _) nn100 rfl (Nat.le_of_ble_eq_true rfl) (Nat.le_of_ble_eq_true rfl) (fun _ => rfl) rfl (fun z1 G2 => ?_)
  refine r_goto 596 dX15_meanOperand_82 rfl ?_
  refine r_to [1] [(1, aI x1)] rfl ?_
  exact s_Tw_meanOperand_b596 P W x1 G2
theorem s_Tw_meanOperand_b101 (P W : Int) (x1 : Int) (s0 : Int) (G : St) : SS (MTw_meanOperand P W) some 101 [(1, aI x1)] [aL s0, aR 100] G (Tw_meanOperand_b101 P W x1 s0 G) := by
  refine r_callvV 104 (Mc := MTw_pushWord P W) (o := 100) (as := [aL s0]) (st := []) dX15_meanOperand_101 rfl (c_Tw_pushWord P W s0 G) lkX15_780 (cmTw_pushWord P W) rfl rfl rfl (fun _ => dsT_100 P W _) nn100 rfl (Nat.le_of_ble_eq_true rfl) (Nat.le_of_ble_eq_true rfl) (fun _ => rfl) rfl (fun z3 G4 => ?_)
  refine r_goto 596 dX15_meanOperand_104 rfl ?_
  exact s_Tw_meanOperand_b596 P W x1 G4
theorem s_Tw_meanOperand_b85 (P W : Int) (x1 : Int) (G : St) : SS (MTw_meanOperand P W) some 85 [(0, aR 100), (1, aI x1)] [] G (Tw_meanOperand_b85 P W x1 G) := by
  refine r_aload_n 86 0 dX15_meanOperand_85 rfl rfl rfl ?_
  refine r_aload_n 87 0 dX15_meanOperand_86 rfl rfl rfl ?_
  refine r_get 90 (aR 115) dX15_meanOperand_87 fkX15_22 (fun _ => dsT_100 P W _) nn100 rfl rfl ?_
  refine r_iload_n 91 1 dX15_meanOperand_90 rfl rfl rfl ?_
  refine r_iald 92 dX15_meanOperand_91 (fun _ _ _ => dsT_115 P W _) (fun _ _ => nn115) rfl ?_
  refine r_iconst 93 3 dX15_meanOperand_92 rfl rfl ?_
  refine SS.phi (fun VV_ => Tw_meanOperand_b101 P W x1 VV_ G) ?_
  refine r_icmp_ne 100 96 dX15_meanOperand_93 rfl rfl ?_ ?_
  · refine r_lconst 101 0 dX15_meanOperand_100 rfl rfl rfl ?_
    refine r_to [1] [(1, aI x1)] rfl ?_
    exact s_Tw_meanOperand_b101 P W x1 0 G
  · refine r_lconst 97 1 dX15_meanOperand_96 rfl rfl rfl ?_
    refine r_goto 101 dX15_meanOperand_97 rfl ?_
    refine r_to [1] [(1, aI x1)] rfl ?_
    exact s_Tw_meanOperand_b101 P W x1 1 G
theorem s_Tw_meanOperand_b210 (P W : Int) (x1 : Int) (s0 : Int) (G : St) : SS (MTw_meanOperand P W) some 210 [(1, aI x1)] [aL s0, aR 100] G (Tw_meanOperand_b210 P W x1 s0 G) := by
  refine r_callvV 213 (Mc := MTw_pushWord P W) (o := 100) (as := [aL s0]) (st := []) dX15_meanOperand_210 rfl (c_Tw_pushWord P W s0 G) lkX15_780 (cmTw_pushWord P W) rfl rfl rfl (fun _ => dsT_100 P W _) nn100 rfl (Nat.le_of_ble_eq_true rfl) (Nat.le_of_ble_eq_true rfl) (fun _ => rfl) rfl (fun z5 G6 => ?_)
  refine r_goto 596 dX15_meanOperand_213 rfl ?_
  exact s_Tw_meanOperand_b596 P W x1 G6
theorem s_Tw_meanOperand_b201 (P W : Int) (x1 : Int) (s0 : Int) (G : St) : SS (MTw_meanOperand P W) some 201 [(0, aR 100), (1, aI x1)] [aI s0, aR 212, aR 215, aR 100] G (Tw_meanOperand_b201 P W x1 s0 G) := by
  refine r_iald 202 dX15_meanOperand_201 (fun _ _ _ => dsT_212 P W _) (fun _ _ => nn212) rfl ?_
  refine r_aload_n 203 0 dX15_meanOperand_202 rfl rfl rfl ?_
  refine r_get 206 (aR 152) dX15_meanOperand_203 fkX15_99 (fun _ => dsT_100 P W _) nn100 rfl rfl ?_
  refine r_iload_n 207 1 dX15_meanOperand_206 rfl rfl rfl ?_
  refine r_iald 208 dX15_meanOperand_207 (fun _ _ _ => dsT_152 P W _) (fun _ _ => nn152) rfl ?_
  refine r_iadd 209 dX15_meanOperand_208 rfl ?_
  refine r_lald 210 dX15_meanOperand_209 (fun _ _ _ => dsT_215 P W _) (fun _ _ => nn215) rfl ?_
  refine r_to [1] [(1, aI x1)] rfl ?_
  exact s_Tw_meanOperand_b210 P W x1 (G 215 ((G 212 s0) + (G 152 x1))) G
theorem s_Tw_meanOperand_b107 (P W : Int) (x1 : Int) (G : St) : SS (MTw_meanOperand P W) some 107 [(0, aR 100), (1, aI x1)] [] G (Tw_meanOperand_b107 P W x1 G) := by
  refine r_aload_n 108 0 dX15_meanOperand_107 rfl rfl rfl ?_
  refine r_get 111 (aR 151) dX15_meanOperand_108 fkX15_96 (fun _ => dsT_100 P W _) nn100 rfl rfl ?_
  refine r_iload_n 112 1 dX15_meanOperand_111 rfl rfl rfl ?_
  refine r_iald 113 dX15_meanOperand_112 (fun _ _ _ => dsT_151 P W _) (fun _ _ => nn151) rfl ?_
  refine r_istore_n 114 [(2, aI (G 151 x1)), (0, aR 100), (1, aI x1)] dX15_meanOperand_113 rfl rfl rfl rfl ?_
  refine r_aload_n 115 1 dX15_meanOperand_114 rfl rfl rfl ?_
  refine r_iload_n 116 0 dX15_meanOperand_115 rfl rfl rfl ?_
  refine r_iconst 117 1 dX15_meanOperand_116 rfl rfl ?_
  refine r_icmp_ne 133 120 dX15_meanOperand_117 rfl rfl ?_ ?_
  · refine r_iload_n 134 0 dX15_meanOperand_133 rfl rfl rfl ?_
    refine r_iconst 135 2 dX15_meanOperand_134 rfl rfl ?_
    refine r_icmp_ne 152 138 dX15_meanOperand_135 rfl rfl ?_ ?_
    · refine r_iload_n 153 0 dX15_meanOperand_152 rfl rfl rfl ?_
      refine r_iconst 154 3 dX15_meanOperand_153 rfl rfl ?_
      refine r_icmp_ne 176 157 dX15_meanOperand_154 rfl rfl ?_ ?_
      · refine r_aload_n 177 1 dX15_meanOperand_176 rfl rfl rfl ?_
        refine r_get 180 (aR 215) dX15_meanOperand_177 fkX15_234 (fun _ => dsT_100 P W _) nn100 rfl rfl ?_
        refine r_aload_n 181 1 dX15_meanOperand_180 rfl rfl rfl ?_
        refine r_get 184 (aR 212) dX15_meanOperand_181 fkX15_225 (fun _ => dsT_100 P W _) nn100 rfl rfl ?_
        refine r_aload_n 185 1 dX15_meanOperand_184 rfl rfl rfl ?_
        refine r_get 188 (aI (G 100 110)) dX15_meanOperand_185 fkX15_681 (fun _ => dsT_100 P W _) nn100 rfl rfl ?_
        refine r_if_le 200 191 dX15_meanOperand_188 rfl rfl ?_ ?_
        · refine r_iconst 201 0 dX15_meanOperand_200 rfl rfl ?_
          refine r_to [1, 2] [(0, aR 100), (1, aI x1)] rfl ?_
          exact s_Tw_meanOperand_b201 P W x1 0 G
        · refine r_aload_n 192 1 dX15_meanOperand_191 rfl rfl rfl ?_
          refine r_get 195 (aI (G 100 110)) dX15_meanOperand_192 fkX15_681 (fun _ => dsT_100 P W _) nn100 rfl rfl ?_
          refine r_iconst 196 1 dX15_meanOperand_195 rfl rfl ?_
          refine r_isub 197 dX15_meanOperand_196 rfl ?_
          refine r_goto 201 dX15_meanOperand_197 rfl ?_
          refine r_to [1, 2] [(0, aR 100), (1, aI x1)] rfl ?_
          exact s_Tw_meanOperand_b201 P W x1 ((G 100 110) - 1) G
      · refine r_aload_n 158 1 dX15_meanOperand_157 rfl rfl rfl ?_
        refine r_get 161 (aR 208) dX15_meanOperand_158 fkX15_216 (fun _ => dsT_100 P W _) nn100 rfl rfl ?_
        refine r_aload_n 162 1 dX15_meanOperand_161 rfl rfl rfl ?_
        refine r_get 165 (aR 152) dX15_meanOperand_162 fkX15_99 (fun _ => dsT_100 P W _) nn100 rfl rfl ?_
        refine r_iload_n 166 2 dX15_meanOperand_165 rfl rfl rfl ?_
        refine r_iald 167 dX15_meanOperand_166 (fun _ _ _ => dsT_152 P W _) (fun _ _ => nn152) rfl ?_
        refine r_lald 168 dX15_meanOperand_167 (fun _ _ _ => dsT_208 P W _) (fun _ _ => nn208) rfl ?_
        refine r_aload_n 169 1 dX15_meanOperand_168 rfl rfl rfl ?_
        refine r_get 172 (aL (2 ^ W.toNat - 1)) dX15_meanOperand_169 fkX15_306 (fun _ => dsT_100 P W _) nn100 rfl rfl ?_
        refine r_land 173 dX15_meanOperand_172 rfl ?_
        refine r_goto 210 dX15_meanOperand_173 rfl ?_
        refine r_to [2] [(1, aI x1)] rfl ?_
        exact s_Tw_meanOperand_b210 P W x1 (j_lan (G 208 (G 152 x1)) (2 ^ W.toNat - 1)) G
    · refine r_aload_n 139 1 dX15_meanOperand_138 rfl rfl rfl ?_
      refine r_get 142 (aR 217) dX15_meanOperand_139 fkX15_237 (fun _ => dsT_100 P W _) nn100 rfl rfl ?_
      refine r_aload_n 143 1 dX15_meanOperand_142 rfl rfl rfl ?_
      refine r_get 146 (aR 152) dX15_meanOperand_143 fkX15_99 (fun _ => dsT_100 P W _) nn100 rfl rfl ?_
      refine r_iload_n 147 2 dX15_meanOperand_146 rfl rfl rfl ?_
      refine r_iald 148 dX15_meanOperand_147 (fun _ _ _ => dsT_152 P W _) (fun _ _ => nn152) rfl ?_
      refine r_lald 149 dX15_meanOperand_148 (fun _ _ _ => dsT_217 P W _) (fun _ _ => nn217) rfl ?_
      refine r_goto 210 dX15_meanOperand_149 rfl ?_
      refine r_to [2] [(1, aI x1)] rfl ?_
      exact s_Tw_meanOperand_b210 P W x1 (G 217 (G 152 x1)) G
  · refine r_aload_n 121 1 dX15_meanOperand_120 rfl rfl rfl ?_
    refine r_aload_n 122 1 dX15_meanOperand_121 rfl rfl rfl ?_
    refine r_get 125 (aR 152) dX15_meanOperand_122 fkX15_99 (fun _ => dsT_100 P W _) nn100 rfl rfl ?_
    refine r_iload_n 126 2 dX15_meanOperand_125 rfl rfl rfl ?_
    refine r_iald 127 dX15_meanOperand_126 (fun _ _ _ => dsT_152 P W _) (fun _ _ => nn152) rfl ?_
    refine r_callvL 130 (Mc := MTw_inputWord P W) (o := 100) (as := [aI (G 152 x1)]) (st := [aR 100]) dX15_meanOperand_127 rfl (c_Tw_inputWord P W (G 152 x1) G) lkX15_784 (cmTw_inputWord P W) rfl rfl rfl (fun _ => dsT_100 P W _) nn100 rfl (Nat.le_of_ble_eq_true rfl) (Nat.le_of_ble_eq_true rfl) (fun _ => rfl) rfl (fun z7 G8 => ?_)
    refine r_goto 210 dX15_meanOperand_130 rfl ?_
    refine r_to [2] [(1, aI x1)] rfl ?_
    exact s_Tw_meanOperand_b210 P W x1 z7 G8
theorem s_Tw_meanOperand_b293 (P W : Int) (x1 : Int) (x4 : Int) (G : St) : SS (MTw_meanOperand P W) some 293 [(0, aR 100), (1, aI x1), (4, aL x4)] [] G (Tw_meanOperand_b293 P W x1 x4 G) := by
  refine r_aload_n 294 0 dX15_meanOperand_293 rfl rfl rfl ?_
  refine r_lload 296 2 dX15_meanOperand_294 rfl rfl ?_
  refine r_callvV 299 (Mc := MTw_pushWord P W) (o := 100) (as := [aL x4]) (st := []) dX15_meanOperand_296 rfl (c_Tw_pushWord P W x4 G) lkX15_780 (cmTw_pushWord P W) rfl rfl rfl (fun _ => dsT_100 P W _) nn100 rfl (Nat.le_of_ble_eq_true rfl) (Nat.le_of_ble_eq_true rfl) (fun _ => rfl) rfl (fun z10 G11 => ?_)
  refine r_goto 596 dX15_meanOperand_299 rfl ?_
  refine r_to [1] [(1, aI x1)] rfl ?_
  exact s_Tw_meanOperand_b596 P W x1 G11
theorem s_Tw_meanOperand_b291 (P W : Int) (x1 : Int) (s0 : Int) (G : St) : SS (MTw_meanOperand P W) some 291 [(0, aR 100), (1, aI x1)] [aL s0] G (Tw_meanOperand_b291 P W x1 s0 G) := by
  refine r_lstore 293 [(4, aL s0), (0, aR 100), (1, aI x1)] dX15_meanOperand_291 rfl rfl rfl ?_
  refine r_to [1, 2, 0] [(0, aR 100), (1, aI x1), (4, aL s0)] rfl ?_
  exact s_Tw_meanOperand_b293 P W x1 s0 G
theorem s_Tw_meanOperand_b216 (P W : Int) (x1 : Int) (G : St) : SS (MTw_meanOperand P W) some 216 [(0, aR 100), (1, aI x1)] [] G (Tw_meanOperand_b216 P W x1 G) := by
  refine r_aload_n 217 0 dX15_meanOperand_216 rfl rfl rfl ?_
  refine r_dup 218 dX15_meanOperand_217 rfl rfl ?_
  refine r_get 221 (aI (G 100 115)) dX15_meanOperand_218 fkX15_765 (fun _ => dsT_100 P W _) nn100 rfl rfl ?_
  refine r_iconst 222 1 dX15_meanOperand_221 rfl rfl ?_
  refine r_isub 223 dX15_meanOperand_222 rfl ?_
  refine r_putI 226 dX15_meanOperand_223 fkX15_765 (fun _ => dsT_100 P W _) nn100 rfl rfl ?_
  refine ss_tk (fun G9 => ?_)
  refine r_aload_n 227 0 dX15_meanOperand_226 rfl rfl rfl ?_
  refine r_get 230 (aR 215) dX15_meanOperand_227 fkX15_234 (fun _ => dsT_100 P W _) nn100 rfl rfl ?_
  refine r_aload_n 231 0 dX15_meanOperand_230 rfl rfl rfl ?_
  refine r_get 234 (aI (G9 100 115)) dX15_meanOperand_231 fkX15_765 (fun _ => dsT_100 P W _) nn100 rfl rfl ?_
  refine r_lald 235 dX15_meanOperand_234 (fun _ _ _ => dsT_215 P W _) (fun _ _ => nn215) rfl ?_
  refine r_lstore_n 236 [(2, aL (G9 215 (G9 100 115))), (0, aR 100), (1, aI x1)] dX15_meanOperand_235 rfl rfl rfl rfl ?_
  refine r_lconst 237 0 dX15_meanOperand_236 rfl rfl rfl ?_
  refine r_lstore 239 [(4, aL 0), (2, aL (G9 215 (G9 100 115))), (0, aR 100), (1, aI x1)] dX15_meanOperand_237 rfl rfl rfl ?_
  refine r_lload_n 240 1 dX15_meanOperand_239 rfl rfl rfl ?_
  refine r_aload_n 241 2 dX15_meanOperand_240 rfl rfl rfl ?_
  refine r_get 244 (aR 153) dX15_meanOperand_241 fkX15_102 (fun _ => dsT_100 P W _) nn100 rfl rfl ?_
  refine r_iload_n 245 3 dX15_meanOperand_244 rfl rfl rfl ?_
  refine r_iald 246 dX15_meanOperand_245 (fun _ _ _ => dsT_153 P W _) (fun _ _ => nn153) rfl ?_
  refine r_i2l 247 dX15_meanOperand_246 rfl ?_
  refine r_lif_ge 248 293 251 dX15_meanOperand_247 rfl dX15_meanOperand_248 rfl rfl ?_ ?_
  · refine r_to [2, 3, 0] [(0, aR 100), (1, aI x1), (4, aL 0)] rfl ?_
    exact s_Tw_meanOperand_b293 P W x1 0 G9
  · refine r_aload_n 252 2 dX15_meanOperand_251 rfl rfl rfl ?_
    refine r_get 255 (aR 151) dX15_meanOperand_252 fkX15_96 (fun _ => dsT_100 P W _) nn100 rfl rfl ?_
    refine r_iload_n 256 3 dX15_meanOperand_255 rfl rfl rfl ?_
    refine r_iald 257 dX15_meanOperand_256 (fun _ _ _ => dsT_151 P W _) (fun _ _ => nn151) rfl ?_
    refine r_iconst 258 1 dX15_meanOperand_257 rfl rfl ?_
    refine r_icmp_ne 277 261 dX15_meanOperand_258 rfl rfl ?_ ?_
    · refine r_aload_n 278 2 dX15_meanOperand_277 rfl rfl rfl ?_
      refine r_get 281 (aR 217) dX15_meanOperand_278 fkX15_237 (fun _ => dsT_100 P W _) nn100 rfl rfl ?_
      refine r_aload_n 282 2 dX15_meanOperand_281 rfl rfl rfl ?_
      refine r_get 285 (aR 152) dX15_meanOperand_282 fkX15_99 (fun _ => dsT_100 P W _) nn100 rfl rfl ?_
      refine r_iload_n 286 3 dX15_meanOperand_285 rfl rfl rfl ?_
      refine r_iald 287 dX15_meanOperand_286 (fun _ _ _ => dsT_152 P W _) (fun _ _ => nn152) rfl ?_
      refine r_lload_n 288 1 dX15_meanOperand_287 rfl rfl rfl ?_
      refine r_l2iw 289 dX15_meanOperand_288 rfl ?_
      refine r_iadd 290 dX15_meanOperand_289 rfl ?_
      refine r_lald 291 dX15_meanOperand_290 (fun _ _ _ => dsT_217 P W _) (fun _ _ => nn217) rfl ?_
      refine r_to [2, 3] [(0, aR 100), (1, aI x1)] rfl ?_
      exact s_Tw_meanOperand_b291 P W x1 (G9 217 ((G9 152 x1) + (w32 (G9 215 (G9 100 115))))) G9
    · refine r_aload_n 262 2 dX15_meanOperand_261 rfl rfl rfl ?_
      refine r_aload_n 263 2 dX15_meanOperand_262 rfl rfl rfl ?_
      refine r_get 266 (aR 152) dX15_meanOperand_263 fkX15_99 (fun _ => dsT_100 P W _) nn100 rfl rfl ?_
      refine r_iload_n 267 3 dX15_meanOperand_266 rfl rfl rfl ?_
      refine r_iald 268 dX15_meanOperand_267 (fun _ _ _ => dsT_152 P W _) (fun _ _ => nn152) rfl ?_
      refine r_lload_n 269 1 dX15_meanOperand_268 rfl rfl rfl ?_
      refine r_l2iw 270 dX15_meanOperand_269 rfl ?_
      refine r_iadd 271 dX15_meanOperand_270 rfl ?_
      refine r_callvL 274 (Mc := MTw_inputWord P W) (o := 100) (as := [aI ((G9 152 x1) + (w32 (G9 215 (G9 100 115))))]) (st := []) dX15_meanOperand_271 rfl (c_Tw_inputWord P W ((G9 152 x1) + (w32 (G9 215 (G9 100 115)))) G9) lkX15_784 (cmTw_inputWord P W) rfl rfl rfl (fun _ => dsT_100 P W _) nn100 rfl (Nat.le_of_ble_eq_true rfl) (Nat.le_of_ble_eq_true rfl) (fun _ => rfl) rfl (fun z12 G13 => ?_)
      refine r_goto 291 dX15_meanOperand_274 rfl ?_
      refine r_to [2, 3] [(0, aR 100), (1, aI x1)] rfl ?_
      exact s_Tw_meanOperand_b291 P W x1 z12 G13
theorem s_Tw_meanOperand_b302 (P W : Int) (x1 : Int) (G : St) : SS (MTw_meanOperand P W) some 302 [(0, aR 100), (1, aI x1)] [] G (Tw_meanOperand_b302 P W x1 G) := by
  refine r_aload_n 303 0 dX15_meanOperand_302 rfl rfl rfl ?_
  refine r_get 306 (aR 152) dX15_meanOperand_303 fkX15_99 (fun _ => dsT_100 P W _) nn100 rfl rfl ?_
  refine r_iload_n 307 1 dX15_meanOperand_306 rfl rfl rfl ?_
  refine r_iald 308 dX15_meanOperand_307 (fun _ _ _ => dsT_152 P W _) (fun _ _ => nn152) rfl ?_
  refine r_istore_n 309 [(2, aI (G 152 x1)), (0, aR 100), (1, aI x1)] dX15_meanOperand_308 rfl rfl rfl rfl ?_
  refine r_aload_n 310 1 dX15_meanOperand_309 rfl rfl rfl ?_
  refine r_get 313 (aR 212) dX15_meanOperand_310 fkX15_225 (fun _ => dsT_100 P W _) nn100 rfl rfl ?_
  refine r_aload_n 314 1 dX15_meanOperand_313 rfl rfl rfl ?_
  refine r_get 317 (aI (G 100 110)) dX15_meanOperand_314 fkX15_681 (fun _ => dsT_100 P W _) nn100 rfl rfl ?_
  refine r_aload_n 318 1 dX15_meanOperand_317 rfl rfl rfl ?_
  refine r_get 321 (aI (G 100 115)) dX15_meanOperand_318 fkX15_765 (fun _ => dsT_100 P W _) nn100 rfl rfl ?_
  refine r_aload_n 322 1 dX15_meanOperand_321 rfl rfl rfl ?_
  refine r_get 325 (aR 117) dX15_meanOperand_322 fkX15_28 (fun _ => dsT_100 P W _) nn100 rfl rfl ?_
  refine r_iload_n 326 0 dX15_meanOperand_325 rfl rfl rfl ?_
  refine r_iald 327 dX15_meanOperand_326 (fun _ _ _ => dsT_117 P W _) (fun _ _ => nn117) rfl ?_
  refine r_isub 328 dX15_meanOperand_327 rfl ?_
  refine r_iast 329 dX15_meanOperand_328 (fun _ _ _ => dsT_212 P W _) (fun _ _ => nn212) rfl ?_
  refine ss_tk (fun G14 => ?_)
  refine r_aload_n 330 1 dX15_meanOperand_329 rfl rfl rfl ?_
  refine r_get 333 (aR 213) dX15_meanOperand_330 fkX15_228 (fun _ => dsT_100 P W _) nn100 rfl rfl ?_
  refine r_aload_n 334 1 dX15_meanOperand_333 rfl rfl rfl ?_
  refine r_get 337 (aI (G14 100 110)) dX15_meanOperand_334 fkX15_681 (fun _ => dsT_100 P W _) nn100 rfl rfl ?_
  refine r_iload_n 338 2 dX15_meanOperand_337 rfl rfl rfl ?_
  refine r_iconst 339 1 dX15_meanOperand_338 rfl rfl ?_
  refine r_iadd 340 dX15_meanOperand_339 rfl ?_
  refine r_iast 341 dX15_meanOperand_340 (fun _ _ _ => dsT_213 P W _) (fun _ _ => nn213) rfl ?_
  refine ss_tk (fun G15 => ?_)
  refine r_aload_n 342 1 dX15_meanOperand_341 rfl rfl rfl ?_
  refine r_dup 343 dX15_meanOperand_342 rfl rfl ?_
  refine r_get 346 (aI (G15 100 110)) dX15_meanOperand_343 fkX15_681 (fun _ => dsT_100 P W _) nn100 rfl rfl ?_
  refine r_iconst 347 1 dX15_meanOperand_346 rfl rfl ?_
  refine r_iadd 348 dX15_meanOperand_347 rfl ?_
  refine r_putI 351 dX15_meanOperand_348 fkX15_681 (fun _ => dsT_100 P W _) nn100 rfl rfl ?_
  refine ss_tk (fun G16 => ?_)
  refine r_aload_n 352 1 dX15_meanOperand_351 rfl rfl rfl ?_
  refine r_iload_n 353 0 dX15_meanOperand_352 rfl rfl rfl ?_
  refine r_callvI 356 (Mc := MTw_bodyOf P W) (o := 100) (as := [aI (G 152 x1)]) (st := []) dX15_meanOperand_353 rfl (c_Tw_bodyOf P W (G 152 x1) G16) lkX15_706 (cmTw_bodyOf P W) rfl rfl rfl (fun _ => dsT_100 P W _) nn100 rfl (Nat.le_of_ble_eq_true rfl) (Nat.le_of_ble_eq_true rfl) (fun _ => rfl) rfl (fun z17 G18 => ?_)
  exact r_ireturn dX15_meanOperand_356 rfl
theorem s_Tw_meanOperand_b357 (P W : Int) (x1 : Int) (G : St) : SS (MTw_meanOperand P W) some 357 [(0, aR 100), (1, aI x1)] [] G (Tw_meanOperand_b357 P W x1 G) := by
  refine r_aload_n 358 0 dX15_meanOperand_357 rfl rfl rfl ?_
  refine r_dup 359 dX15_meanOperand_358 rfl rfl ?_
  refine r_get 362 (aI (G 100 115)) dX15_meanOperand_359 fkX15_765 (fun _ => dsT_100 P W _) nn100 rfl rfl ?_
  refine r_iconst 363 1 dX15_meanOperand_362 rfl rfl ?_
  refine r_isub 364 dX15_meanOperand_363 rfl ?_
  refine r_putI 367 dX15_meanOperand_364 fkX15_765 (fun _ => dsT_100 P W _) nn100 rfl rfl ?_
  refine ss_tk (fun G19 => ?_)
  refine r_aload_n 368 0 dX15_meanOperand_367 rfl rfl rfl ?_
  refine r_get 371 (aR 215) dX15_meanOperand_368 fkX15_234 (fun _ => dsT_100 P W _) nn100 rfl rfl ?_
  refine r_aload_n 372 0 dX15_meanOperand_371 rfl rfl rfl ?_
  refine r_get 375 (aI (G19 100 115)) dX15_meanOperand_372 fkX15_765 (fun _ => dsT_100 P W _) nn100 rfl rfl ?_
  refine r_iconst 376 1 dX15_meanOperand_375 rfl rfl ?_
  refine r_isub 377 dX15_meanOperand_376 rfl ?_
  refine r_aload_n 378 0 dX15_meanOperand_377 rfl rfl rfl ?_
  refine r_get 381 (aR 215) dX15_meanOperand_378 fkX15_234 (fun _ => dsT_100 P W _) nn100 rfl rfl ?_
  refine r_aload_n 382 0 dX15_meanOperand_381 rfl rfl rfl ?_
  refine r_get 385 (aI (G19 100 115)) dX15_meanOperand_382 fkX15_765 (fun _ => dsT_100 P W _) nn100 rfl rfl ?_
  refine r_iconst 386 1 dX15_meanOperand_385 rfl rfl ?_
  refine r_isub 387 dX15_meanOperand_386 rfl ?_
  refine r_lald 388 dX15_meanOperand_387 (fun _ _ _ => dsT_215 P W _) (fun _ _ => nn215) rfl ?_
  refine r_aload_n 389 0 dX15_meanOperand_388 rfl rfl rfl ?_
  refine r_get 392 (aR 215) dX15_meanOperand_389 fkX15_234 (fun _ => dsT_100 P W _) nn100 rfl rfl ?_
  refine r_aload_n 393 0 dX15_meanOperand_392 rfl rfl rfl ?_
  refine r_get 396 (aI (G19 100 115)) dX15_meanOperand_393 fkX15_765 (fun _ => dsT_100 P W _) nn100 rfl rfl ?_
  refine r_lald 397 dX15_meanOperand_396 (fun _ _ _ => dsT_215 P W _) (fun _ _ => nn215) rfl ?_
  refine r_l2iw 398 dX15_meanOperand_397 rfl ?_
  refine r_lshr 399 dX15_meanOperand_398 rfl ?_
  refine r_lconst 400 1 dX15_meanOperand_399 rfl rfl rfl ?_
  refine r_land 401 dX15_meanOperand_400 rfl ?_
  refine r_last 402 dX15_meanOperand_401 (fun _ _ _ => dsT_215 P W _) (fun _ _ => nn215) rfl ?_
  refine ss_tk (fun G20 => ?_)
  refine r_goto 596 dX15_meanOperand_402 rfl ?_
  refine r_to [1] [(1, aI x1)] rfl ?_
  exact s_Tw_meanOperand_b596 P W x1 G20
theorem s_Tw_meanOperand_b475 (P W : Int) (x1 : Int) (s0 : Int) (s1 : Int) (G : St) : SS (MTw_meanOperand P W) some 475 [(1, aI x1)] [aL s0, aI s1, aR 215] G (Tw_meanOperand_b475 P W x1 s0 s1 G) := by
  refine r_last 476 dX15_meanOperand_475 (fun _ _ _ => dsT_215 P W _) (fun _ _ => nn215) rfl ?_
  refine ss_tk (fun G21 => ?_)
  refine r_goto 596 dX15_meanOperand_476 rfl ?_
  exact s_Tw_meanOperand_b596 P W x1 G21
theorem s_Tw_meanOperand_b405 (P W : Int) (x1 : Int) (G : St) : SS (MTw_meanOperand P W) some 405 [(0, aR 100), (1, aI x1)] [] G (Tw_meanOperand_b405 P W x1 G) := by
  refine r_aload_n 406 0 dX15_meanOperand_405 rfl rfl rfl ?_
  refine r_get 409 (aR 215) dX15_meanOperand_406 fkX15_234 (fun _ => dsT_100 P W _) nn100 rfl rfl ?_
  refine r_aload_n 410 0 dX15_meanOperand_409 rfl rfl rfl ?_
  refine r_get 413 (aI (G 100 115)) dX15_meanOperand_410 fkX15_765 (fun _ => dsT_100 P W _) nn100 rfl rfl ?_
  refine r_iconst 414 1 dX15_meanOperand_413 rfl rfl ?_
  refine r_isub 415 dX15_meanOperand_414 rfl ?_
  refine r_lald 416 dX15_meanOperand_415 (fun _ _ _ => dsT_215 P W _) (fun _ _ => nn215) rfl ?_
  refine r_lstore_n 417 [(2, aL (G 215 ((G 100 115) - 1))), (0, aR 100), (1, aI x1)] dX15_meanOperand_416 rfl rfl rfl rfl ?_
  refine r_aload_n 418 1 dX15_meanOperand_417 rfl rfl rfl ?_
  refine r_get 421 (aR 215) dX15_meanOperand_418 fkX15_234 (fun _ => dsT_100 P W _) nn100 rfl rfl ?_
  refine r_aload_n 422 1 dX15_meanOperand_421 rfl rfl rfl ?_
  refine r_get 425 (aI (G 100 115)) dX15_meanOperand_422 fkX15_765 (fun _ => dsT_100 P W _) nn100 rfl rfl ?_
  refine r_iconst 426 1 dX15_meanOperand_425 rfl rfl ?_
  refine r_isub 427 dX15_meanOperand_426 rfl ?_
  refine r_aload_n 428 1 dX15_meanOperand_427 rfl rfl rfl ?_
  refine r_get 431 (aR 116) dX15_meanOperand_428 fkX15_25 (fun _ => dsT_100 P W _) nn100 rfl rfl ?_
  refine r_iload_n 432 2 dX15_meanOperand_431 rfl rfl rfl ?_
  refine r_iald 433 dX15_meanOperand_432 (fun _ _ _ => dsT_116 P W _) (fun _ _ => nn116) rfl ?_
  refine r_bipush 435 33 dX15_meanOperand_433 rfl rfl ?_
  refine r_icmp_ne 444 438 dX15_meanOperand_435 rfl rfl ?_ ?_
  · refine r_aload_n 445 1 dX15_meanOperand_444 rfl rfl rfl ?_
    refine r_get 448 (aR 116) dX15_meanOperand_445 fkX15_25 (fun _ => dsT_100 P W _) nn100 rfl rfl ?_
    refine r_iload_n 449 2 dX15_meanOperand_448 rfl rfl rfl ?_
    refine r_iald 450 dX15_meanOperand_449 (fun _ _ _ => dsT_116 P W _) (fun _ _ => nn116) rfl ?_
    refine r_bipush 452 45 dX15_meanOperand_450 rfl rfl ?_
    refine r_icmp_ne 465 455 dX15_meanOperand_452 rfl rfl ?_ ?_
    · refine r_lload_n 466 0 dX15_meanOperand_465 rfl rfl rfl ?_
      refine r_ldc2 469 (-1) dX15_meanOperand_466 q2715 (by decide) rfl rfl ?_
      refine r_lxor 470 dX15_meanOperand_469 rfl ?_
      refine r_aload_n 471 1 dX15_meanOperand_470 rfl rfl rfl ?_
      refine r_get 474 (aL (2 ^ W.toNat - 1)) dX15_meanOperand_471 fkX15_306 (fun _ => dsT_100 P W _) nn100 rfl rfl ?_
      refine r_land 475 dX15_meanOperand_474 rfl ?_
      refine r_to [2] [(1, aI x1)] rfl ?_
      exact s_Tw_meanOperand_b475 P W x1 (j_lan (j_lxo (G 215 ((G 100 115) - 1)) (-1)) (2 ^ W.toNat - 1)) ((G 100 115) - 1) G
    · refine r_lload_n 456 0 dX15_meanOperand_455 rfl rfl rfl ?_
      refine r_lneg 457 dX15_meanOperand_456 rfl ?_
      refine r_aload_n 458 1 dX15_meanOperand_457 rfl rfl rfl ?_
      refine r_get 461 (aL (2 ^ W.toNat - 1)) dX15_meanOperand_458 fkX15_306 (fun _ => dsT_100 P W _) nn100 rfl rfl ?_
      refine r_land 462 dX15_meanOperand_461 rfl ?_
      refine r_goto 475 dX15_meanOperand_462 rfl ?_
      refine r_to [2] [(1, aI x1)] rfl ?_
      exact s_Tw_meanOperand_b475 P W x1 (j_lan (-(G 215 ((G 100 115) - 1))) (2 ^ W.toNat - 1)) ((G 100 115) - 1) G
  · refine r_lconst 439 1 dX15_meanOperand_438 rfl rfl rfl ?_
    refine r_lload_n 440 0 dX15_meanOperand_439 rfl rfl rfl ?_
    refine r_lsub 441 dX15_meanOperand_440 rfl ?_
    refine r_goto 475 dX15_meanOperand_441 rfl ?_
    refine r_to [2] [(1, aI x1)] rfl ?_
    exact s_Tw_meanOperand_b475 P W x1 (1 - (G 215 ((G 100 115) - 1))) ((G 100 115) - 1) G
theorem s_Tw_meanOperand_b479 (P W : Int) (x1 : Int) (G : St) : SS (MTw_meanOperand P W) some 479 [(0, aR 100), (1, aI x1)] [] G (Tw_meanOperand_b479 P W x1 G) := by
  refine r_aload_n 480 0 dX15_meanOperand_479 rfl rfl rfl ?_
  refine r_dup 481 dX15_meanOperand_480 rfl rfl ?_
  refine r_get 484 (aI (G 100 115)) dX15_meanOperand_481 fkX15_765 (fun _ => dsT_100 P W _) nn100 rfl rfl ?_
  refine r_iconst 485 1 dX15_meanOperand_484 rfl rfl ?_
  refine r_isub 486 dX15_meanOperand_485 rfl ?_
  refine r_putI 489 dX15_meanOperand_486 fkX15_765 (fun _ => dsT_100 P W _) nn100 rfl rfl ?_
  refine ss_tk (fun G22 => ?_)
  refine r_aload_n 490 0 dX15_meanOperand_489 rfl rfl rfl ?_
  refine r_get 493 (aR 215) dX15_meanOperand_490 fkX15_234 (fun _ => dsT_100 P W _) nn100 rfl rfl ?_
  refine r_aload_n 494 0 dX15_meanOperand_493 rfl rfl rfl ?_
  refine r_get 497 (aI (G22 100 115)) dX15_meanOperand_494 fkX15_765 (fun _ => dsT_100 P W _) nn100 rfl rfl ?_
  refine r_iconst 498 1 dX15_meanOperand_497 rfl rfl ?_
  refine r_isub 499 dX15_meanOperand_498 rfl ?_
  refine r_aload_n 500 0 dX15_meanOperand_499 rfl rfl rfl ?_
  refine r_aload_n 501 0 dX15_meanOperand_500 rfl rfl rfl ?_
  refine r_get 504 (aR 116) dX15_meanOperand_501 fkX15_25 (fun _ => dsT_100 P W _) nn100 rfl rfl ?_
  refine r_iload_n 505 1 dX15_meanOperand_504 rfl rfl rfl ?_
  refine r_iald 506 dX15_meanOperand_505 (fun _ _ _ => dsT_116 P W _) (fun _ _ => nn116) rfl ?_
  refine r_aload_n 507 0 dX15_meanOperand_506 rfl rfl rfl ?_
  refine r_get 510 (aR 215) dX15_meanOperand_507 fkX15_234 (fun _ => dsT_100 P W _) nn100 rfl rfl ?_
  refine r_aload_n 511 0 dX15_meanOperand_510 rfl rfl rfl ?_
  refine r_get 514 (aI (G22 100 115)) dX15_meanOperand_511 fkX15_765 (fun _ => dsT_100 P W _) nn100 rfl rfl ?_
  refine r_iconst 515 1 dX15_meanOperand_514 rfl rfl ?_
  refine r_isub 516 dX15_meanOperand_515 rfl ?_
  refine r_lald 517 dX15_meanOperand_516 (fun _ _ _ => dsT_215 P W _) (fun _ _ => nn215) rfl ?_
  refine r_aload_n 518 0 dX15_meanOperand_517 rfl rfl rfl ?_
  refine r_get 521 (aR 215) dX15_meanOperand_518 fkX15_234 (fun _ => dsT_100 P W _) nn100 rfl rfl ?_
  refine r_aload_n 522 0 dX15_meanOperand_521 rfl rfl rfl ?_
  refine r_get 525 (aI (G22 100 115)) dX15_meanOperand_522 fkX15_765 (fun _ => dsT_100 P W _) nn100 rfl rfl ?_
  refine r_lald 526 dX15_meanOperand_525 (fun _ _ _ => dsT_215 P W _) (fun _ _ => nn215) rfl ?_
  refine r_callvL 529 (Mc := MTw_meanBinary P W) (o := 100) (as := [aI (G22 116 x1), aL (G22 215 ((G22 100 115) - 1)), aL (G22 215 (G22 100 115))]) (st := [aI ((G22 100 115) - 1), aR 215]) dX15_meanOperand_526 rfl (c_Tw_meanBinary P W (G22 116 x1) (G22 215 ((G22 100 115) - 1)) (G22 215 (G22 100 115)) G22) lkX15_789 (cmTw_meanBinary P W) rfl rfl rfl (fun _ => dsT_100 P W _) nn100 rfl (Nat.le_of_ble_eq_true rfl) (Nat.le_of_ble_eq_true rfl) (fun _ => rfl) rfl (fun z23 G24 => ?_)
  refine r_last 530 dX15_meanOperand_529 (fun _ _ _ => dsT_215 P W _) (fun _ _ => nn215) rfl ?_
  refine ss_tk (fun G25 => ?_)
  refine r_goto 596 dX15_meanOperand_530 rfl ?_
  refine r_to [1] [(1, aI x1)] rfl ?_
  exact s_Tw_meanOperand_b596 P W x1 G25
theorem s_Tw_meanOperand_b592 (P W : Int) (x1 : Int) (s0 : Int) (s1 : Int) (G : St) : SS (MTw_meanOperand P W) some 592 [(1, aI x1)] [aL s0, aI s1, aR 215] G (Tw_meanOperand_b592 P W x1 s0 s1 G) := by
  refine r_last 593 dX15_meanOperand_592 (fun _ _ _ => dsT_215 P W _) (fun _ _ => nn215) rfl ?_
  refine ss_tk (fun G27 => ?_)
  refine r_goto 596 dX15_meanOperand_593 rfl ?_
  exact s_Tw_meanOperand_b596 P W x1 G27
theorem s_Tw_meanOperand_b533 (P W : Int) (x1 : Int) (G : St) : SS (MTw_meanOperand P W) some 533 [(0, aR 100), (1, aI x1)] [] G (Tw_meanOperand_b533 P W x1 G) := by
  refine r_aload_n 534 0 dX15_meanOperand_533 rfl rfl rfl ?_
  refine r_dup 535 dX15_meanOperand_534 rfl rfl ?_
  refine r_get 538 (aI (G 100 115)) dX15_meanOperand_535 fkX15_765 (fun _ => dsT_100 P W _) nn100 rfl rfl ?_
  refine r_iconst 539 2 dX15_meanOperand_538 rfl rfl ?_
  refine r_isub 540 dX15_meanOperand_539 rfl ?_
  refine r_putI 543 dX15_meanOperand_540 fkX15_765 (fun _ => dsT_100 P W _) nn100 rfl rfl ?_
  refine ss_tk (fun G26 => ?_)
  refine r_aload_n 544 0 dX15_meanOperand_543 rfl rfl rfl ?_
  refine r_get 547 (aR 215) dX15_meanOperand_544 fkX15_234 (fun _ => dsT_100 P W _) nn100 rfl rfl ?_
  refine r_aload_n 548 0 dX15_meanOperand_547 rfl rfl rfl ?_
  refine r_get 551 (aI (G26 100 115)) dX15_meanOperand_548 fkX15_765 (fun _ => dsT_100 P W _) nn100 rfl rfl ?_
  refine r_iconst 552 1 dX15_meanOperand_551 rfl rfl ?_
  refine r_isub 553 dX15_meanOperand_552 rfl ?_
  refine r_aload_n 554 0 dX15_meanOperand_553 rfl rfl rfl ?_
  refine r_get 557 (aR 215) dX15_meanOperand_554 fkX15_234 (fun _ => dsT_100 P W _) nn100 rfl rfl ?_
  refine r_aload_n 558 0 dX15_meanOperand_557 rfl rfl rfl ?_
  refine r_get 561 (aI (G26 100 115)) dX15_meanOperand_558 fkX15_765 (fun _ => dsT_100 P W _) nn100 rfl rfl ?_
  refine r_iconst 562 1 dX15_meanOperand_561 rfl rfl ?_
  refine r_isub 563 dX15_meanOperand_562 rfl ?_
  refine r_lald 564 dX15_meanOperand_563 (fun _ _ _ => dsT_215 P W _) (fun _ _ => nn215) rfl ?_
  refine r_lconst 565 1 dX15_meanOperand_564 rfl rfl rfl ?_
  refine r_lif_ne 566 581 569 dX15_meanOperand_565 rfl dX15_meanOperand_566 rfl rfl ?_ ?_
  · refine r_aload_n 582 0 dX15_meanOperand_581 rfl rfl rfl ?_
    refine r_get 585 (aR 215) dX15_meanOperand_582 fkX15_234 (fun _ => dsT_100 P W _) nn100 rfl rfl ?_
    refine r_aload_n 586 0 dX15_meanOperand_585 rfl rfl rfl ?_
    refine r_get 589 (aI (G26 100 115)) dX15_meanOperand_586 fkX15_765 (fun _ => dsT_100 P W _) nn100 rfl rfl ?_
    refine r_iconst 590 1 dX15_meanOperand_589 rfl rfl ?_
    refine r_iadd 591 dX15_meanOperand_590 rfl ?_
    refine r_lald 592 dX15_meanOperand_591 (fun _ _ _ => dsT_215 P W _) (fun _ _ => nn215) rfl ?_
    refine r_to [1] [(1, aI x1)] rfl ?_
    exact s_Tw_meanOperand_b592 P W x1 (G26 215 ((G26 100 115) + 1)) ((G26 100 115) - 1) G26
  · refine r_aload_n 570 0 dX15_meanOperand_569 rfl rfl rfl ?_
    refine r_get 573 (aR 215) dX15_meanOperand_570 fkX15_234 (fun _ => dsT_100 P W _) nn100 rfl rfl ?_
    refine r_aload_n 574 0 dX15_meanOperand_573 rfl rfl rfl ?_
    refine r_get 577 (aI (G26 100 115)) dX15_meanOperand_574 fkX15_765 (fun _ => dsT_100 P W _) nn100 rfl rfl ?_
    refine r_lald 578 dX15_meanOperand_577 (fun _ _ _ => dsT_215 P W _) (fun _ _ => nn215) rfl ?_
    refine r_goto 592 dX15_meanOperand_578 rfl ?_
    refine r_to [1] [(1, aI x1)] rfl ?_
    exact s_Tw_meanOperand_b592 P W x1 (G26 215 (G26 100 115)) ((G26 100 115) - 1) G26
theorem s_Tw_meanOperand (P W : Int) (x1 : Int) (G : St) : SS (MTw_meanOperand P W) some 0 [(0, aR 100), (1, aI x1)] [] G (Tw_meanOperand P W x1 G) := by
  refine r_aload_n 1 0 dX15_meanOperand_0 rfl rfl rfl ?_
  refine r_get 4 (aR 115) dX15_meanOperand_1 fkX15_22 (fun _ => dsT_100 P W _) nn100 rfl rfl ?_
  refine r_iload_n 5 1 dX15_meanOperand_4 rfl rfl rfl ?_
  refine r_iald 6 dX15_meanOperand_5 (fun _ _ _ => dsT_115 P W _) (fun _ _ => nn115) rfl ?_
  refine r_tsw 596 [(72, Tw_meanOperand_b72 P W x1 G), (85, Tw_meanOperand_b85 P W x1 G), (85, Tw_meanOperand_b85 P W x1 G), (107, Tw_meanOperand_b107 P W x1 G), (596, Tw_meanOperand_b596 P W x1 G), (216, Tw_meanOperand_b216 P W x1 G), (596, Tw_meanOperand_b596 P W x1 G), (302, Tw_meanOperand_b302 P W x1 G), (596, Tw_meanOperand_b596 P W x1 G), (357, Tw_meanOperand_b357 P W x1 G), (405, Tw_meanOperand_b405 P W x1 G), (479, Tw_meanOperand_b479 P W x1 G), (533, Tw_meanOperand_b533 P W x1 G)] dX15_meanOperand_6 rfl rfl rfl ⟨?_, ?_, ?_, ?_, ?_, ?_, ?_, ?_, ?_, ?_, ?_, ?_, ?_, trivial⟩ ?_
  · exact s_Tw_meanOperand_b72 P W x1 G
  · exact s_Tw_meanOperand_b85 P W x1 G
  · exact s_Tw_meanOperand_b85 P W x1 G
  · exact s_Tw_meanOperand_b107 P W x1 G
  · refine r_to [1] [(1, aI x1)] rfl ?_
    exact s_Tw_meanOperand_b596 P W x1 G
  · exact s_Tw_meanOperand_b216 P W x1 G
  · refine r_to [1] [(1, aI x1)] rfl ?_
    exact s_Tw_meanOperand_b596 P W x1 G
  · exact s_Tw_meanOperand_b302 P W x1 G
  · refine r_to [1] [(1, aI x1)] rfl ?_
    exact s_Tw_meanOperand_b596 P W x1 G
  · exact s_Tw_meanOperand_b357 P W x1 G
  · exact s_Tw_meanOperand_b405 P W x1 G
  · exact s_Tw_meanOperand_b479 P W x1 G
  · exact s_Tw_meanOperand_b533 P W x1 G
  · refine r_to [1] [(1, aI x1)] rfl ?_
    exact s_Tw_meanOperand_b596 P W x1 G
theorem c_Tw_meanOperand (P W : Int) (x1 : Int) (G : St) : MG (MTw_meanOperand P W) [aR 100, aI x1] G (Tw_meanOperand P W x1 G) := MG.of plX15 (Nat.le_of_ble_eq_true rfl) (s_Tw_meanOperand P W x1 G)
theorem s_Tw_meanStatement_b558 (P W : Int) (x1 : Int) (G : St) : SS (MTw_meanStatement P W) some 558 [(1, aI x1)] [] G (Tw_meanStatement_b558 x1 G) := by
  refine r_iload_n 559 0 dX15_meanStatement_558 rfl rfl rfl ?_
  refine r_iconst 560 1 dX15_meanStatement_559 rfl rfl ?_
  refine r_iadd 561 dX15_meanStatement_560 rfl ?_
  exact r_ireturn dX15_meanStatement_561 rfl
theorem s_Tw_meanStatement_b151 (P W : Int) (x1 : Int) (x2 : Int) (x4 : Int) (X138 : Int × St → Option (Int × St)) (hX138 : ∀ s, So (MTw_meanStatement P W) 138 [(0, aR 100), (1, aI x1), (2, aL x2), (4, aI x4), (5, aI (s.1))] [] s.2 (X138 s)) (x5 : Int) (s0 : Int) (s1 : Int) (G : St) : SS (MTw_meanStatement P W) (lk X138 some) 151 [(0, aR 100), (1, aI x1), (2, aL x2), (4, aI x4), (5, aI x5)] [aI s0, aI s1] G (Tw_meanStatement_b151 x1 x2 x4 x5 s0 s1 G) := by
  refine r_icmp_ge 175 154 dX15_meanStatement_151 rfl rfl ?_ ?_
  · refine SS.ex ?_
    refine r_goto 558 dX15_meanStatement_175 rfl ?_
    refine r_to [1] [(1, aI x1)] rfl ?_
    exact s_Tw_meanStatement_b558 P W x1 G
  · refine r_aload_n 155 0 dX15_meanStatement_154 rfl rfl rfl ?_
    refine r_get 158 (aR 217) dX15_meanStatement_155 fkX15_237 (fun _ => dsT_100 P W _) nn100 rfl rfl ?_
    refine r_aload_n 159 0 dX15_meanStatement_158 rfl rfl rfl ?_
    refine r_get 162 (aR 134) dX15_meanStatement_159 fkX15_56 (fun _ => dsT_100 P W _) nn100 rfl rfl ?_
    refine r_iload_n 163 1 dX15_meanStatement_162 rfl rfl rfl ?_
    refine r_iald 164 dX15_meanStatement_163 (fun _ _ _ => dsT_134 P W _) (fun _ _ => nn134) rfl ?_
    refine r_iload 166 4 dX15_meanStatement_164 rfl rfl ?_
    refine r_iadd 167 dX15_meanStatement_166 rfl ?_
    refine r_lload_n 168 2 dX15_meanStatement_167 rfl rfl rfl ?_
    refine r_last 169 dX15_meanStatement_168 (fun _ _ _ => dsT_217 P W _) (fun _ _ => nn217) rfl ?_
    refine ss_tk (fun G2 => ?_)
    refine r_iinc 172 [(5, aI (x5 + 1)), (0, aR 100), (1, aI x1), (2, aL x2), (4, aI x4)] 4 dX15_meanStatement_169 rfl rfl rfl rfl ?_
    refine r_goto 138 dX15_meanStatement_172 rfl ?_
    refine r_to [1, 2, 3, 4, 0] [(0, aR 100), (1, aI x1), (2, aL x2), (4, aI x4), (5, aI (x5 + 1))] rfl ?_
    exact SS.back (hX138 (x5 + 1, G2))
theorem s_Tw_meanStatement_s138 (P W : Int) (x1 : Int) (x2 : Int) (x4 : Int) (X138 : Int × St → Option (Int × St)) (hX138 : ∀ s, So (MTw_meanStatement P W) 138 [(0, aR 100), (1, aI x1), (2, aL x2), (4, aI x4), (5, aI (s.1))] [] s.2 (X138 s)) (x5 : Int) (G : St) : SS (MTw_meanStatement P W) (lk X138 some) 138 [(0, aR 100), (1, aI x1), (2, aL x2), (4, aI x4), (5, aI x5)] [] G (Tw_meanStatement_s138 x1 x2 x4 x5 G) := by
  refine r_iload 140 4 dX15_meanStatement_138 rfl rfl ?_
  refine r_iload 142 3 dX15_meanStatement_140 rfl rfl ?_
  refine SS.phi (fun VV_ => Tw_meanStatement_b151 x1 x2 x4 x5 VV_ x5 G) ?_
  refine r_if_ne 149 145 dX15_meanStatement_142 rfl rfl ?_ ?_
  · refine r_iload 151 3 dX15_meanStatement_149 rfl rfl ?_
    exact s_Tw_meanStatement_b151 P W x1 x2 x4 X138 hX138 x5 x4 x5 G
  · refine r_iconst 146 1 dX15_meanStatement_145 rfl rfl ?_
    refine r_goto 151 dX15_meanStatement_146 rfl ?_
    exact s_Tw_meanStatement_b151 P W x1 x2 x4 X138 hX138 x5 1 x5 G
theorem sl_Tw_meanStatement_138 (P W : Int) (x1 : Int) (x2 : Int) (x4 : Int) (x5 : Int) (G : St) : SS (MTw_meanStatement P W) some 138 [(0, aR 100), (1, aI x1), (2, aL x2), (4, aI x4), (5, aI x5)] [] G (Tw_meanStatement_l138 x1 x2 x4 x5 G) := by
  exact SS.loop (σ := Int × St) (fun s => [(0, aR 100), (1, aI x1), (2, aL x2), (4, aI x4), (5, aI (s.1))]) (fun s => s.2) (fun s => Tw_meanStatement_s138 x1 x2 x4 s.1 s.2) (fun X138 hX138 s => s_Tw_meanStatement_s138 P W x1 x2 x4  X138 hX138 s.1 s.2) (x5, G)
theorem s_Tw_meanStatement_b119 (P W : Int) (x1 : Int) (x2 : Int) (G : St) : SS (MTw_meanStatement P W) some 119 [(0, aR 100), (1, aI x1), (2, aL x2)] [] G (Tw_meanStatement_b119 x1 x2 G) := by
  refine r_aload_n 120 0 dX15_meanStatement_119 rfl rfl rfl ?_
  refine r_get 123 (aR 119) dX15_meanStatement_120 fkX15_34 (fun _ => dsT_100 P W _) nn100 rfl rfl ?_
  refine r_iload_n 124 1 dX15_meanStatement_123 rfl rfl rfl ?_
  refine r_lald 125 dX15_meanStatement_124 (fun _ _ _ => dsT_119 P W _) (fun _ _ => nn119) rfl ?_
  refine r_bipush 127 8 dX15_meanStatement_125 rfl rfl ?_
  refine r_lshr 128 dX15_meanStatement_127 rfl ?_
  refine r_ldc2 131 255 dX15_meanStatement_128 q2541 (by decide) rfl rfl ?_
  refine r_land 132 dX15_meanStatement_131 rfl ?_
  refine r_l2iw 133 dX15_meanStatement_132 rfl ?_
  refine r_istore 135 [(4, aI (w32 (j_lan (j_lsr (G 119 x1) 8) 255))), (0, aR 100), (1, aI x1), (2, aL x2)] dX15_meanStatement_133 rfl rfl rfl ?_
  refine ss_vlI (fun v1 => ?_)
  refine r_iconst 136 0 dX15_meanStatement_135 rfl rfl ?_
  refine r_istore 138 [(5, aI 0), (4, aI v1), (0, aR 100), (1, aI x1), (2, aL x2)] dX15_meanStatement_136 rfl rfl rfl ?_
  refine r_to [2, 3, 4, 1, 0] [(0, aR 100), (1, aI x1), (2, aL x2), (4, aI v1), (5, aI 0)] rfl ?_
  exact sl_Tw_meanStatement_138 P W x1 x2 v1 0 G
theorem s_Tw_meanStatement_b84 (P W : Int) (x1 : Int) (G : St) : SS (MTw_meanStatement P W) some 84 [(0, aR 100), (1, aI x1)] [] G (Tw_meanStatement_b84 x1 G) := by
  refine r_lconst 85 0 dX15_meanStatement_84 rfl rfl rfl ?_
  refine r_lstore_n 86 [(2, aL 0), (0, aR 100), (1, aI x1)] dX15_meanStatement_85 rfl rfl rfl rfl ?_
  refine r_aload_n 87 1 dX15_meanStatement_86 rfl rfl rfl ?_
  refine r_get 90 (aR 119) dX15_meanStatement_87 fkX15_34 (fun _ => dsT_100 P W _) nn100 rfl rfl ?_
  refine r_iload_n 91 2 dX15_meanStatement_90 rfl rfl rfl ?_
  refine r_lald 92 dX15_meanStatement_91 (fun _ _ _ => dsT_119 P W _) (fun _ _ => nn119) rfl ?_
  refine r_ldc2 95 65536 dX15_meanStatement_92 q2451 (by decide) rfl rfl ?_
  refine r_lif_lt 96 119 99 dX15_meanStatement_95 rfl dX15_meanStatement_96 rfl rfl ?_ ?_
  · refine r_to [1, 2, 0] [(0, aR 100), (1, aI x1), (2, aL 0)] rfl ?_
    exact s_Tw_meanStatement_b119 P W x1 0 G
  · refine r_aload_n 100 1 dX15_meanStatement_99 rfl rfl rfl ?_
    refine r_dup 101 dX15_meanStatement_100 rfl rfl ?_
    refine r_get 104 (aI (G 100 115)) dX15_meanStatement_101 fkX15_765 (fun _ => dsT_100 P W _) nn100 rfl rfl ?_
    refine r_iconst 105 1 dX15_meanStatement_104 rfl rfl ?_
    refine r_isub 106 dX15_meanStatement_105 rfl ?_
    refine r_putI 109 dX15_meanStatement_106 fkX15_765 (fun _ => dsT_100 P W _) nn100 rfl rfl ?_
    refine ss_tk (fun G3 => ?_)
    refine r_aload_n 110 1 dX15_meanStatement_109 rfl rfl rfl ?_
    refine r_get 113 (aR 215) dX15_meanStatement_110 fkX15_234 (fun _ => dsT_100 P W _) nn100 rfl rfl ?_
    refine r_aload_n 114 1 dX15_meanStatement_113 rfl rfl rfl ?_
    refine r_get 117 (aI (G3 100 115)) dX15_meanStatement_114 fkX15_765 (fun _ => dsT_100 P W _) nn100 rfl rfl ?_
    refine r_lald 118 dX15_meanStatement_117 (fun _ _ _ => dsT_215 P W _) (fun _ _ => nn215) rfl ?_
    refine r_lstore_n 119 [(2, aL (G3 215 (G3 100 115))), (0, aR 100), (1, aI x1)] dX15_meanStatement_118 rfl rfl rfl rfl ?_
    refine r_to [1, 2, 0] [(0, aR 100), (1, aI x1), (2, aL (G3 215 (G3 100 115)))] rfl ?_
    exact s_Tw_meanStatement_b119 P W x1 (G3 215 (G3 100 115)) G3
theorem s_Tw_meanStatement_b178 (P W : Int) (x1 : Int) (G : St) : SS (MTw_meanStatement P W) some 178 [(0, aR 100), (1, aI x1)] [] G (Tw_meanStatement_b178 x1 G) := by
  refine r_aload_n 179 0 dX15_meanStatement_178 rfl rfl rfl ?_
  refine r_get 182 (aR 119) dX15_meanStatement_179 fkX15_34 (fun _ => dsT_100 P W _) nn100 rfl rfl ?_
  refine r_iload_n 183 1 dX15_meanStatement_182 rfl rfl rfl ?_
  refine r_lald 184 dX15_meanStatement_183 (fun _ _ _ => dsT_119 P W _) (fun _ _ => nn119) rfl ?_
  refine r_l2iw 185 dX15_meanStatement_184 rfl ?_
  refine r_iconst 186 1 dX15_meanStatement_185 rfl rfl ?_
  refine r_iadd 187 dX15_meanStatement_186 rfl ?_
  exact r_ireturn dX15_meanStatement_187 rfl
theorem s_Tw_meanStatement_b188 (P W : Int) (G : St) : SS (MTw_meanStatement P W) some 188 [(0, aR 100)] [] G (Tw_meanStatement_b188 G) := by
  refine r_aload_n 189 0 dX15_meanStatement_188 rfl rfl rfl ?_
  refine r_dup 190 dX15_meanStatement_189 rfl rfl ?_
  refine r_get 193 (aI (G 100 110)) dX15_meanStatement_190 fkX15_681 (fun _ => dsT_100 P W _) nn100 rfl rfl ?_
  refine r_iconst 194 1 dX15_meanStatement_193 rfl rfl ?_
  refine r_isub 195 dX15_meanStatement_194 rfl ?_
  refine r_putI 198 dX15_meanStatement_195 fkX15_681 (fun _ => dsT_100 P W _) nn100 rfl rfl ?_
  refine ss_tk (fun G4 => ?_)
  refine r_aload_n 199 0 dX15_meanStatement_198 rfl rfl rfl ?_
  refine r_get 202 (aR 215) dX15_meanStatement_199 fkX15_234 (fun _ => dsT_100 P W _) nn100 rfl rfl ?_
  refine r_aload_n 203 0 dX15_meanStatement_202 rfl rfl rfl ?_
  refine r_get 206 (aR 212) dX15_meanStatement_203 fkX15_225 (fun _ => dsT_100 P W _) nn100 rfl rfl ?_
  refine r_aload_n 207 0 dX15_meanStatement_206 rfl rfl rfl ?_
  refine r_get 210 (aI (G4 100 110)) dX15_meanStatement_207 fkX15_681 (fun _ => dsT_100 P W _) nn100 rfl rfl ?_
  refine r_iald 211 dX15_meanStatement_210 (fun _ _ _ => dsT_212 P W _) (fun _ _ => nn212) rfl ?_
  refine r_aload_n 212 0 dX15_meanStatement_211 rfl rfl rfl ?_
  refine r_get 215 (aR 215) dX15_meanStatement_212 fkX15_234 (fun _ => dsT_100 P W _) nn100 rfl rfl ?_
  refine r_aload_n 216 0 dX15_meanStatement_215 rfl rfl rfl ?_
  refine r_get 219 (aI (G4 100 115)) dX15_meanStatement_216 fkX15_765 (fun _ => dsT_100 P W _) nn100 rfl rfl ?_
  refine r_iconst 220 1 dX15_meanStatement_219 rfl rfl ?_
  refine r_isub 221 dX15_meanStatement_220 rfl ?_
  refine r_lald 222 dX15_meanStatement_221 (fun _ _ _ => dsT_215 P W _) (fun _ _ => nn215) rfl ?_
  refine r_last 223 dX15_meanStatement_222 (fun _ _ _ => dsT_215 P W _) (fun _ _ => nn215) rfl ?_
  refine ss_tk (fun G5 => ?_)
  refine r_aload_n 224 0 dX15_meanStatement_223 rfl rfl rfl ?_
  refine r_aload_n 225 0 dX15_meanStatement_224 rfl rfl rfl ?_
  refine r_get 228 (aR 212) dX15_meanStatement_225 fkX15_225 (fun _ => dsT_100 P W _) nn100 rfl rfl ?_
  refine r_aload_n 229 0 dX15_meanStatement_228 rfl rfl rfl ?_
  refine r_get 232 (aI (G5 100 110)) dX15_meanStatement_229 fkX15_681 (fun _ => dsT_100 P W _) nn100 rfl rfl ?_
  refine r_iald 233 dX15_meanStatement_232 (fun _ _ _ => dsT_212 P W _) (fun _ _ => nn212) rfl ?_
  refine r_iconst 234 1 dX15_meanStatement_233 rfl rfl ?_
  refine r_iadd 235 dX15_meanStatement_234 rfl ?_
  refine r_putI 238 dX15_meanStatement_235 fkX15_765 (fun _ => dsT_100 P W _) nn100 rfl rfl ?_
  refine ss_tk (fun G6 => ?_)
  refine r_aload_n 239 0 dX15_meanStatement_238 rfl rfl rfl ?_
  refine r_get 242 (aR 213) dX15_meanStatement_239 fkX15_228 (fun _ => dsT_100 P W _) nn100 rfl rfl ?_
  refine r_aload_n 243 0 dX15_meanStatement_242 rfl rfl rfl ?_
  refine r_get 246 (aI (G6 100 110)) dX15_meanStatement_243 fkX15_681 (fun _ => dsT_100 P W _) nn100 rfl rfl ?_
  refine r_iald 247 dX15_meanStatement_246 (fun _ _ _ => dsT_213 P W _) (fun _ _ => nn213) rfl ?_
  exact r_ireturn dX15_meanStatement_247 rfl
theorem s_Tw_meanStatement_b248 (P W : Int) (x1 : Int) (G : St) : SS (MTw_meanStatement P W) some 248 [(0, aR 100), (1, aI x1)] [] G (Tw_meanStatement_b248 x1 G) := by
  refine r_aload_n 249 0 dX15_meanStatement_248 rfl rfl rfl ?_
  refine r_dup 250 dX15_meanStatement_249 rfl rfl ?_
  refine r_get 253 (aI (G 100 115)) dX15_meanStatement_250 fkX15_765 (fun _ => dsT_100 P W _) nn100 rfl rfl ?_
  refine r_iconst 254 1 dX15_meanStatement_253 rfl rfl ?_
  refine r_isub 255 dX15_meanStatement_254 rfl ?_
  refine r_putI 258 dX15_meanStatement_255 fkX15_765 (fun _ => dsT_100 P W _) nn100 rfl rfl ?_
  refine ss_tk (fun G7 => ?_)
  refine r_aload_n 259 0 dX15_meanStatement_258 rfl rfl rfl ?_
  refine r_get 262 (aR 218) dX15_meanStatement_259 fkX15_240 (fun _ => dsT_100 P W _) nn100 rfl rfl ?_
  refine r_aload_n 263 0 dX15_meanStatement_262 rfl rfl rfl ?_
  refine r_get 266 (aI (G7 100 118)) dX15_meanStatement_263 fkX15_768 (fun _ => dsT_100 P W _) nn100 rfl rfl ?_
  refine r_aload_n 267 0 dX15_meanStatement_266 rfl rfl rfl ?_
  refine r_get 270 (aR 215) dX15_meanStatement_267 fkX15_234 (fun _ => dsT_100 P W _) nn100 rfl rfl ?_
  refine r_aload_n 271 0 dX15_meanStatement_270 rfl rfl rfl ?_
  refine r_get 274 (aI (G7 100 115)) dX15_meanStatement_271 fkX15_765 (fun _ => dsT_100 P W _) nn100 rfl rfl ?_
  refine r_lald 275 dX15_meanStatement_274 (fun _ _ _ => dsT_215 P W _) (fun _ _ => nn215) rfl ?_
  refine r_last 276 dX15_meanStatement_275 (fun _ _ _ => dsT_218 P W _) (fun _ _ => nn218) rfl ?_
  refine ss_tk (fun G8 => ?_)
  refine r_aload_n 277 0 dX15_meanStatement_276 rfl rfl rfl ?_
  refine r_dup 278 dX15_meanStatement_277 rfl rfl ?_
  refine r_get 281 (aI (G8 100 118)) dX15_meanStatement_278 fkX15_768 (fun _ => dsT_100 P W _) nn100 rfl rfl ?_
  refine r_iconst 282 1 dX15_meanStatement_281 rfl rfl ?_
  refine r_iadd 283 dX15_meanStatement_282 rfl ?_
  refine r_putI 286 dX15_meanStatement_283 fkX15_768 (fun _ => dsT_100 P W _) nn100 rfl rfl ?_
  refine ss_tk (fun G9 => ?_)
  refine r_goto 558 dX15_meanStatement_286 rfl ?_
  refine r_to [1] [(1, aI x1)] rfl ?_
  exact s_Tw_meanStatement_b558 P W x1 G9
theorem s_Tw_meanStatement_b289 (P W : Int) (x1 : Int) (G : St) : SS (MTw_meanStatement P W) some 289 [(0, aR 100), (1, aI x1)] [] G (Tw_meanStatement_b289 x1 G) := by
  refine r_aload_n 290 0 dX15_meanStatement_289 rfl rfl rfl ?_
  refine r_dup 291 dX15_meanStatement_290 rfl rfl ?_
  refine r_get 294 (aI (G 100 115)) dX15_meanStatement_291 fkX15_765 (fun _ => dsT_100 P W _) nn100 rfl rfl ?_
  refine r_iconst 295 1 dX15_meanStatement_294 rfl rfl ?_
  refine r_isub 296 dX15_meanStatement_295 rfl ?_
  refine r_putI 299 dX15_meanStatement_296 fkX15_765 (fun _ => dsT_100 P W _) nn100 rfl rfl ?_
  refine ss_tk (fun G10 => ?_)
  refine r_aload_n 300 0 dX15_meanStatement_299 rfl rfl rfl ?_
  refine r_get 303 (aR 217) dX15_meanStatement_300 fkX15_237 (fun _ => dsT_100 P W _) nn100 rfl rfl ?_
  refine r_aload_n 304 0 dX15_meanStatement_303 rfl rfl rfl ?_
  refine r_get 307 (aR 152) dX15_meanStatement_304 fkX15_99 (fun _ => dsT_100 P W _) nn100 rfl rfl ?_
  refine r_iload_n 308 1 dX15_meanStatement_307 rfl rfl rfl ?_
  refine r_iald 309 dX15_meanStatement_308 (fun _ _ _ => dsT_152 P W _) (fun _ _ => nn152) rfl ?_
  refine r_aload_n 310 0 dX15_meanStatement_309 rfl rfl rfl ?_
  refine r_get 313 (aR 215) dX15_meanStatement_310 fkX15_234 (fun _ => dsT_100 P W _) nn100 rfl rfl ?_
  refine r_aload_n 314 0 dX15_meanStatement_313 rfl rfl rfl ?_
  refine r_get 317 (aI (G10 100 115)) dX15_meanStatement_314 fkX15_765 (fun _ => dsT_100 P W _) nn100 rfl rfl ?_
  refine r_lald 318 dX15_meanStatement_317 (fun _ _ _ => dsT_215 P W _) (fun _ _ => nn215) rfl ?_
  refine r_last 319 dX15_meanStatement_318 (fun _ _ _ => dsT_217 P W _) (fun _ _ => nn217) rfl ?_
  refine ss_tk (fun G11 => ?_)
  refine r_goto 558 dX15_meanStatement_319 rfl ?_
  refine r_to [1] [(1, aI x1)] rfl ?_
  exact s_Tw_meanStatement_b558 P W x1 G11
theorem s_Tw_meanStatement_b322 (P W : Int) (x1 : Int) (G : St) : SS (MTw_meanStatement P W) some 322 [(0, aR 100), (1, aI x1)] [] G (Tw_meanStatement_b322 x1 G) := by
  refine r_aload_n 323 0 dX15_meanStatement_322 rfl rfl rfl ?_
  refine r_dup 324 dX15_meanStatement_323 rfl rfl ?_
  refine r_get 327 (aI (G 100 115)) dX15_meanStatement_324 fkX15_765 (fun _ => dsT_100 P W _) nn100 rfl rfl ?_
  refine r_iconst 328 2 dX15_meanStatement_327 rfl rfl ?_
  refine r_isub 329 dX15_meanStatement_328 rfl ?_
  refine r_putI 332 dX15_meanStatement_329 fkX15_765 (fun _ => dsT_100 P W _) nn100 rfl rfl ?_
  refine ss_tk (fun G12 => ?_)
  refine r_aload_n 333 0 dX15_meanStatement_332 rfl rfl rfl ?_
  refine r_get 336 (aR 215) dX15_meanStatement_333 fkX15_234 (fun _ => dsT_100 P W _) nn100 rfl rfl ?_
  refine r_aload_n 337 0 dX15_meanStatement_336 rfl rfl rfl ?_
  refine r_get 340 (aI (G12 100 115)) dX15_meanStatement_337 fkX15_765 (fun _ => dsT_100 P W _) nn100 rfl rfl ?_
  refine r_lald 341 dX15_meanStatement_340 (fun _ _ _ => dsT_215 P W _) (fun _ _ => nn215) rfl ?_
  refine r_aload_n 342 0 dX15_meanStatement_341 rfl rfl rfl ?_
  refine r_get 345 (aR 153) dX15_meanStatement_342 fkX15_102 (fun _ => dsT_100 P W _) nn100 rfl rfl ?_
  refine r_iload_n 346 1 dX15_meanStatement_345 rfl rfl rfl ?_
  refine r_iald 347 dX15_meanStatement_346 (fun _ _ _ => dsT_153 P W _) (fun _ _ => nn153) rfl ?_
  refine r_i2l 348 dX15_meanStatement_347 rfl ?_
  refine r_lif_ge 349 558 352 dX15_meanStatement_348 rfl dX15_meanStatement_349 rfl rfl ?_ ?_
  · refine r_to [1] [(1, aI x1)] rfl ?_
    exact s_Tw_meanStatement_b558 P W x1 G12
  · refine r_aload_n 353 0 dX15_meanStatement_352 rfl rfl rfl ?_
    refine r_get 356 (aR 217) dX15_meanStatement_353 fkX15_237 (fun _ => dsT_100 P W _) nn100 rfl rfl ?_
    refine r_aload_n 357 0 dX15_meanStatement_356 rfl rfl rfl ?_
    refine r_get 360 (aR 152) dX15_meanStatement_357 fkX15_99 (fun _ => dsT_100 P W _) nn100 rfl rfl ?_
    refine r_iload_n 361 1 dX15_meanStatement_360 rfl rfl rfl ?_
    refine r_iald 362 dX15_meanStatement_361 (fun _ _ _ => dsT_152 P W _) (fun _ _ => nn152) rfl ?_
    refine r_aload_n 363 0 dX15_meanStatement_362 rfl rfl rfl ?_
    refine r_get 366 (aR 215) dX15_meanStatement_363 fkX15_234 (fun _ => dsT_100 P W _) nn100 rfl rfl ?_
    refine r_aload_n 367 0 dX15_meanStatement_366 rfl rfl rfl ?_
    refine r_get 370 (aI (G12 100 115)) dX15_meanStatement_367 fkX15_765 (fun _ => dsT_100 P W _) nn100 rfl rfl ?_
    refine r_lald 371 dX15_meanStatement_370 (fun _ _ _ => dsT_215 P W _) (fun _ _ => nn215) rfl ?_
    refine r_l2iw 372 dX15_meanStatement_371 rfl ?_
    refine r_iadd 373 dX15_meanStatement_372 rfl ?_
    refine r_aload_n 374 0 dX15_meanStatement_373 rfl rfl rfl ?_
    refine r_get 377 (aR 215) dX15_meanStatement_374 fkX15_234 (fun _ => dsT_100 P W _) nn100 rfl rfl ?_
    refine r_aload_n 378 0 dX15_meanStatement_377 rfl rfl rfl ?_
    refine r_get 381 (aI (G12 100 115)) dX15_meanStatement_378 fkX15_765 (fun _ => dsT_100 P W _) nn100 rfl rfl ?_
    refine r_iconst 382 1 dX15_meanStatement_381 rfl rfl ?_
    refine r_iadd 383 dX15_meanStatement_382 rfl ?_
    refine r_lald 384 dX15_meanStatement_383 (fun _ _ _ => dsT_215 P W _) (fun _ _ => nn215) rfl ?_
    refine r_last 385 dX15_meanStatement_384 (fun _ _ _ => dsT_217 P W _) (fun _ _ => nn217) rfl ?_
    refine ss_tk (fun G13 => ?_)
    refine r_goto 558 dX15_meanStatement_385 rfl ?_
    refine r_to [1] [(1, aI x1)] rfl ?_
    exact s_Tw_meanStatement_b558 P W x1 G13
theorem s_Tw_meanStatement_b388 (P W : Int) (x1 : Int) (G : St) : SS (MTw_meanStatement P W) some 388 [(0, aR 100), (1, aI x1)] [] G (Tw_meanStatement_b388 x1 G) := by
  refine r_aload_n 389 0 dX15_meanStatement_388 rfl rfl rfl ?_
  refine r_dup 390 dX15_meanStatement_389 rfl rfl ?_
  refine r_get 393 (aI (G 100 115)) dX15_meanStatement_390 fkX15_765 (fun _ => dsT_100 P W _) nn100 rfl rfl ?_
  refine r_iconst 394 1 dX15_meanStatement_393 rfl rfl ?_
  refine r_isub 395 dX15_meanStatement_394 rfl ?_
  refine r_putI 398 dX15_meanStatement_395 fkX15_765 (fun _ => dsT_100 P W _) nn100 rfl rfl ?_
  refine ss_tk (fun G14 => ?_)
  refine r_aload_n 399 0 dX15_meanStatement_398 rfl rfl rfl ?_
  refine r_get 402 (aR 215) dX15_meanStatement_399 fkX15_234 (fun _ => dsT_100 P W _) nn100 rfl rfl ?_
  refine r_aload_n 403 0 dX15_meanStatement_402 rfl rfl rfl ?_
  refine r_get 406 (aI (G14 100 115)) dX15_meanStatement_403 fkX15_765 (fun _ => dsT_100 P W _) nn100 rfl rfl ?_
  refine r_lald 407 dX15_meanStatement_406 (fun _ _ _ => dsT_215 P W _) (fun _ _ => nn215) rfl ?_
  refine r_lconst 408 0 dX15_meanStatement_407 rfl rfl rfl ?_
  refine r_lif_ne 409 558 412 dX15_meanStatement_408 rfl dX15_meanStatement_409 rfl rfl ?_ ?_
  · refine r_to [1] [(1, aI x1)] rfl ?_
    exact s_Tw_meanStatement_b558 P W x1 G14
  · refine r_aload_n 413 0 dX15_meanStatement_412 rfl rfl rfl ?_
    refine r_get 416 (aR 117) dX15_meanStatement_413 fkX15_28 (fun _ => dsT_100 P W _) nn100 rfl rfl ?_
    refine r_iload_n 417 1 dX15_meanStatement_416 rfl rfl rfl ?_
    refine r_iald 418 dX15_meanStatement_417 (fun _ _ _ => dsT_117 P W _) (fun _ _ => nn117) rfl ?_
    refine r_iconst 419 1 dX15_meanStatement_418 rfl rfl ?_
    refine r_iadd 420 dX15_meanStatement_419 rfl ?_
    exact r_ireturn dX15_meanStatement_420 rfl
theorem s_Tw_meanStatement_b421 (P W : Int) (x1 : Int) (G : St) : SS (MTw_meanStatement P W) some 421 [(0, aR 100), (1, aI x1)] [] G (Tw_meanStatement_b421 x1 G) := by
  refine r_aload_n 422 0 dX15_meanStatement_421 rfl rfl rfl ?_
  refine r_get 425 (aR 117) dX15_meanStatement_422 fkX15_28 (fun _ => dsT_100 P W _) nn100 rfl rfl ?_
  refine r_iload_n 426 1 dX15_meanStatement_425 rfl rfl rfl ?_
  refine r_iald 427 dX15_meanStatement_426 (fun _ _ _ => dsT_117 P W _) (fun _ _ => nn117) rfl ?_
  refine r_iconst 428 1 dX15_meanStatement_427 rfl rfl ?_
  refine r_iadd 429 dX15_meanStatement_428 rfl ?_
  exact r_ireturn dX15_meanStatement_429 rfl
theorem s_Tw_meanStatement_b430 (P W : Int) (x1 : Int) (G : St) : SS (MTw_meanStatement P W) some 430 [(0, aR 100), (1, aI x1)] [] G (Tw_meanStatement_b430 x1 G) := by
  refine r_aload_n 431 0 dX15_meanStatement_430 rfl rfl rfl ?_
  refine r_dup 432 dX15_meanStatement_431 rfl rfl ?_
  refine r_get 435 (aI (G 100 115)) dX15_meanStatement_432 fkX15_765 (fun _ => dsT_100 P W _) nn100 rfl rfl ?_
  refine r_iconst 436 2 dX15_meanStatement_435 rfl rfl ?_
  refine r_isub 437 dX15_meanStatement_436 rfl ?_
  refine r_putI 440 dX15_meanStatement_437 fkX15_765 (fun _ => dsT_100 P W _) nn100 rfl rfl ?_
  refine ss_tk (fun G15 => ?_)
  refine r_aload_n 441 0 dX15_meanStatement_440 rfl rfl rfl ?_
  refine r_get 444 (aR 215) dX15_meanStatement_441 fkX15_234 (fun _ => dsT_100 P W _) nn100 rfl rfl ?_
  refine r_aload_n 445 0 dX15_meanStatement_444 rfl rfl rfl ?_
  refine r_get 448 (aI (G15 100 115)) dX15_meanStatement_445 fkX15_765 (fun _ => dsT_100 P W _) nn100 rfl rfl ?_
  refine r_lald 449 dX15_meanStatement_448 (fun _ _ _ => dsT_215 P W _) (fun _ _ => nn215) rfl ?_
  refine r_aload_n 450 0 dX15_meanStatement_449 rfl rfl rfl ?_
  refine r_get 453 (aR 215) dX15_meanStatement_450 fkX15_234 (fun _ => dsT_100 P W _) nn100 rfl rfl ?_
  refine r_aload_n 454 0 dX15_meanStatement_453 rfl rfl rfl ?_
  refine r_get 457 (aI (G15 100 115)) dX15_meanStatement_454 fkX15_765 (fun _ => dsT_100 P W _) nn100 rfl rfl ?_
  refine r_iconst 458 1 dX15_meanStatement_457 rfl rfl ?_
  refine r_iadd 459 dX15_meanStatement_458 rfl ?_
  refine r_lald 460 dX15_meanStatement_459 (fun _ _ _ => dsT_215 P W _) (fun _ _ => nn215) rfl ?_
  refine r_lif_le 461 473 464 dX15_meanStatement_460 rfl dX15_meanStatement_461 rfl rfl ?_ ?_
  · refine r_aload_n 474 0 dX15_meanStatement_473 rfl rfl rfl ?_
    refine r_get 477 (aR 208) dX15_meanStatement_474 fkX15_216 (fun _ => dsT_100 P W _) nn100 rfl rfl ?_
    refine r_iload_n 478 1 dX15_meanStatement_477 rfl rfl rfl ?_
    refine r_aload_n 479 0 dX15_meanStatement_478 rfl rfl rfl ?_
    refine r_get 482 (aR 215) dX15_meanStatement_479 fkX15_234 (fun _ => dsT_100 P W _) nn100 rfl rfl ?_
    refine r_aload_n 483 0 dX15_meanStatement_482 rfl rfl rfl ?_
    refine r_get 486 (aI (G15 100 115)) dX15_meanStatement_483 fkX15_765 (fun _ => dsT_100 P W _) nn100 rfl rfl ?_
    refine r_lald 487 dX15_meanStatement_486 (fun _ _ _ => dsT_215 P W _) (fun _ _ => nn215) rfl ?_
    refine r_last 488 dX15_meanStatement_487 (fun _ _ _ => dsT_208 P W _) (fun _ _ => nn208) rfl ?_
    refine ss_tk (fun G16 => ?_)
    refine r_aload_n 489 0 dX15_meanStatement_488 rfl rfl rfl ?_
    refine r_get 492 (aR 209) dX15_meanStatement_489 fkX15_219 (fun _ => dsT_100 P W _) nn100 rfl rfl ?_
    refine r_iload_n 493 1 dX15_meanStatement_492 rfl rfl rfl ?_
    refine r_aload_n 494 0 dX15_meanStatement_493 rfl rfl rfl ?_
    refine r_get 497 (aR 215) dX15_meanStatement_494 fkX15_234 (fun _ => dsT_100 P W _) nn100 rfl rfl ?_
    refine r_aload_n 498 0 dX15_meanStatement_497 rfl rfl rfl ?_
    refine r_get 501 (aI (G16 100 115)) dX15_meanStatement_498 fkX15_765 (fun _ => dsT_100 P W _) nn100 rfl rfl ?_
    refine r_iconst 502 1 dX15_meanStatement_501 rfl rfl ?_
    refine r_iadd 503 dX15_meanStatement_502 rfl ?_
    refine r_lald 504 dX15_meanStatement_503 (fun _ _ _ => dsT_215 P W _) (fun _ _ => nn215) rfl ?_
    refine r_last 505 dX15_meanStatement_504 (fun _ _ _ => dsT_209 P W _) (fun _ _ => nn209) rfl ?_
    refine ss_tk (fun G17 => ?_)
    refine r_goto 558 dX15_meanStatement_505 rfl ?_
    refine r_to [1] [(1, aI x1)] rfl ?_
    exact s_Tw_meanStatement_b558 P W x1 G17
  · refine r_aload_n 465 0 dX15_meanStatement_464 rfl rfl rfl ?_
    refine r_get 468 (aR 117) dX15_meanStatement_465 fkX15_28 (fun _ => dsT_100 P W _) nn100 rfl rfl ?_
    refine r_iload_n 469 1 dX15_meanStatement_468 rfl rfl rfl ?_
    refine r_iald 470 dX15_meanStatement_469 (fun _ _ _ => dsT_117 P W _) (fun _ _ => nn117) rfl ?_
    refine r_iconst 471 1 dX15_meanStatement_470 rfl rfl ?_
    refine r_iadd 472 dX15_meanStatement_471 rfl ?_
    exact r_ireturn dX15_meanStatement_472 rfl
theorem s_Tw_meanStatement_b508 (P W : Int) (x1 : Int) (G : St) : SS (MTw_meanStatement P W) some 508 [(0, aR 100), (1, aI x1)] [] G (Tw_meanStatement_b508 x1 G) := by
  refine r_aload_n 509 0 dX15_meanStatement_508 rfl rfl rfl ?_
  refine r_get 512 (aR 208) dX15_meanStatement_509 fkX15_216 (fun _ => dsT_100 P W _) nn100 rfl rfl ?_
  refine r_aload_n 513 0 dX15_meanStatement_512 rfl rfl rfl ?_
  refine r_get 516 (aR 116) dX15_meanStatement_513 fkX15_25 (fun _ => dsT_100 P W _) nn100 rfl rfl ?_
  refine r_iload_n 517 1 dX15_meanStatement_516 rfl rfl rfl ?_
  refine r_iald 518 dX15_meanStatement_517 (fun _ _ _ => dsT_116 P W _) (fun _ _ => nn116) rfl ?_
  refine r_lald 519 dX15_meanStatement_518 (fun _ _ _ => dsT_208 P W _) (fun _ _ => nn208) rfl ?_
  refine r_aload_n 520 0 dX15_meanStatement_519 rfl rfl rfl ?_
  refine r_get 523 (aR 209) dX15_meanStatement_520 fkX15_219 (fun _ => dsT_100 P W _) nn100 rfl rfl ?_
  refine r_aload_n 524 0 dX15_meanStatement_523 rfl rfl rfl ?_
  refine r_get 527 (aR 116) dX15_meanStatement_524 fkX15_25 (fun _ => dsT_100 P W _) nn100 rfl rfl ?_
  refine r_iload_n 528 1 dX15_meanStatement_527 rfl rfl rfl ?_
  refine r_iald 529 dX15_meanStatement_528 (fun _ _ _ => dsT_116 P W _) (fun _ _ => nn116) rfl ?_
  refine r_lald 530 dX15_meanStatement_529 (fun _ _ _ => dsT_209 P W _) (fun _ _ => nn209) rfl ?_
  refine r_lif_ge 531 558 534 dX15_meanStatement_530 rfl dX15_meanStatement_531 rfl rfl ?_ ?_
  · refine r_to [1] [(1, aI x1)] rfl ?_
    exact s_Tw_meanStatement_b558 P W x1 G
  · refine r_aload_n 535 0 dX15_meanStatement_534 rfl rfl rfl ?_
    refine r_get 538 (aR 208) dX15_meanStatement_535 fkX15_216 (fun _ => dsT_100 P W _) nn100 rfl rfl ?_
    refine r_aload_n 539 0 dX15_meanStatement_538 rfl rfl rfl ?_
    refine r_get 542 (aR 116) dX15_meanStatement_539 fkX15_25 (fun _ => dsT_100 P W _) nn100 rfl rfl ?_
    refine r_iload_n 543 1 dX15_meanStatement_542 rfl rfl rfl ?_
    refine r_iald 544 dX15_meanStatement_543 (fun _ _ _ => dsT_116 P W _) (fun _ _ => nn116) rfl ?_
    refine r_dup2 545 dX15_meanStatement_544 rfl rfl rfl ?_
    refine r_lald 546 dX15_meanStatement_545 (fun _ _ _ => dsT_208 P W _) (fun _ _ => nn208) rfl ?_
    refine r_lconst 547 1 dX15_meanStatement_546 rfl rfl rfl ?_
    refine r_ladd 548 dX15_meanStatement_547 rfl ?_
    refine r_last 549 dX15_meanStatement_548 (fun _ _ _ => dsT_208 P W _) (fun _ _ => nn208) rfl ?_
    refine ss_tk (fun G18 => ?_)
    refine r_aload_n 550 0 dX15_meanStatement_549 rfl rfl rfl ?_
    refine r_get 553 (aR 116) dX15_meanStatement_550 fkX15_25 (fun _ => dsT_100 P W _) nn100 rfl rfl ?_
    refine r_iload_n 554 1 dX15_meanStatement_553 rfl rfl rfl ?_
    refine r_iald 555 dX15_meanStatement_554 (fun _ _ _ => dsT_116 P W _) (fun _ _ => nn116) rfl ?_
    refine r_iconst 556 1 dX15_meanStatement_555 rfl rfl ?_
    refine r_iadd 557 dX15_meanStatement_556 rfl ?_
    exact r_ireturn dX15_meanStatement_557 rfl
theorem s_Tw_meanStatement (P W : Int) (x1 : Int) (G : St) : SS (MTw_meanStatement P W) some 0 [(0, aR 100), (1, aI x1)] [] G (Tw_meanStatement x1 G) := by
  refine r_aload_n 1 0 dX15_meanStatement_0 rfl rfl rfl ?_
  refine r_get 4 (aR 115) dX15_meanStatement_1 fkX15_22 (fun _ => dsT_100 P W _) nn100 rfl rfl ?_
  refine r_iload_n 5 1 dX15_meanStatement_4 rfl rfl rfl ?_
  refine r_iald 6 dX15_meanStatement_5 (fun _ _ _ => dsT_115 P W _) (fun _ _ => nn115) rfl ?_
  refine r_tsw 558 [(84, Tw_meanStatement_b84 x1 G), (178, Tw_meanStatement_b178 x1 G), (558, Tw_meanStatement_b558 x1 G), (558, Tw_meanStatement_b558 x1 G), (188, Tw_meanStatement_b188 G), (248, Tw_meanStatement_b248 x1 G), (558, Tw_meanStatement_b558 x1 G), (289, Tw_meanStatement_b289 x1 G), (558, Tw_meanStatement_b558 x1 G), (322, Tw_meanStatement_b322 x1 G), (388, Tw_meanStatement_b388 x1 G), (421, Tw_meanStatement_b421 x1 G), (558, Tw_meanStatement_b558 x1 G), (558, Tw_meanStatement_b558 x1 G), (430, Tw_meanStatement_b430 x1 G), (508, Tw_meanStatement_b508 x1 G)] dX15_meanStatement_6 rfl rfl rfl ⟨?_, ?_, ?_, ?_, ?_, ?_, ?_, ?_, ?_, ?_, ?_, ?_, ?_, ?_, ?_, ?_, trivial⟩ ?_
  · exact s_Tw_meanStatement_b84 P W x1 G
  · exact s_Tw_meanStatement_b178 P W x1 G
  · refine r_to [1] [(1, aI x1)] rfl ?_
    exact s_Tw_meanStatement_b558 P W x1 G
  · refine r_to [1] [(1, aI x1)] rfl ?_
    exact s_Tw_meanStatement_b558 P W x1 G
  · refine r_to [0] [(0, aR 100)] rfl ?_
    exact s_Tw_meanStatement_b188 P W G
  · exact s_Tw_meanStatement_b248 P W x1 G
  · refine r_to [1] [(1, aI x1)] rfl ?_
    exact s_Tw_meanStatement_b558 P W x1 G
  · exact s_Tw_meanStatement_b289 P W x1 G
  · refine r_to [1] [(1, aI x1)] rfl ?_
    exact s_Tw_meanStatement_b558 P W x1 G
  · exact s_Tw_meanStatement_b322 P W x1 G
  · exact s_Tw_meanStatement_b388 P W x1 G
  · exact s_Tw_meanStatement_b421 P W x1 G
  · refine r_to [1] [(1, aI x1)] rfl ?_
    exact s_Tw_meanStatement_b558 P W x1 G
  · refine r_to [1] [(1, aI x1)] rfl ?_
    exact s_Tw_meanStatement_b558 P W x1 G
  · exact s_Tw_meanStatement_b430 P W x1 G
  · exact s_Tw_meanStatement_b508 P W x1 G
  · refine r_to [1] [(1, aI x1)] rfl ?_
    exact s_Tw_meanStatement_b558 P W x1 G
theorem c_Tw_meanStatement (P W : Int) (x1 : Int) (G : St) : MG (MTw_meanStatement P W) [aR 100, aI x1] G (Tw_meanStatement x1 G) := MG.of plX15 (Nat.le_of_ble_eq_true rfl) (s_Tw_meanStatement P W x1 G)
theorem s_Tw_mean_b49 (P W : Int) (X17 : Int × St → Option (Int × St)) (hX17 : ∀ s, So (MTw_mean P W) 17 [(0, aR 100), (1, aI (s.1))] [] s.2 (X17 s)) (s0 : Int) (G : St) : SS (MTw_mean P W) (lk X17 some) 49 [(0, aR 100)] [aI s0] G (Tw_mean_b49 P W s0 G) := by
  refine r_istore_n 50 [(1, aI s0), (0, aR 100)] dX15_mean_49 rfl rfl rfl rfl ?_
  refine r_goto 17 dX15_mean_50 rfl ?_
  refine r_to [1, 0] [(0, aR 100), (1, aI s0)] rfl ?_
  exact SS.back (hX17 (s0, G))
theorem s_Tw_mean_s17 (P W : Int) (X17 : Int × St → Option (Int × St)) (hX17 : ∀ s, So (MTw_mean P W) 17 [(0, aR 100), (1, aI (s.1))] [] s.2 (X17 s)) (x1 : Int) (G : St) : SS (MTw_mean P W) (lk X17 some) 17 [(0, aR 100), (1, aI x1)] [] G (Tw_mean_s17 P W x1 G) := by
  refine r_iload_n 18 1 dX15_mean_17 rfl rfl rfl ?_
  refine r_aload_n 19 0 dX15_mean_18 rfl rfl rfl ?_
  refine r_get 22 (aI (G 100 13)) dX15_mean_19 fkX15_411 (fun _ => dsT_100 P W _) nn100 rfl rfl ?_
  refine r_icmp_ge 53 25 dX15_mean_22 rfl rfl ?_ ?_
  · refine SS.ex ?_
    refine r_aload_n 54 0 dX15_mean_53 rfl rfl rfl ?_
    refine r_iconst 55 1 dX15_mean_54 rfl rfl ?_
    refine r_putZ 58 dX15_mean_55 fkX15_777 (fun _ => dsT_100 P W _) nn100 rfl rfl ?_
    refine ss_tk (fun G4 => ?_)
    exact r_return dX15_mean_58 rfl
  · refine r_aload_n 26 0 dX15_mean_25 rfl rfl rfl ?_
    refine r_get 29 (aR 115) dX15_mean_26 fkX15_22 (fun _ => dsT_100 P W _) nn100 rfl rfl ?_
    refine r_iload_n 30 1 dX15_mean_29 rfl rfl rfl ?_
    refine r_iald 31 dX15_mean_30 (fun _ _ _ => dsT_115 P W _) (fun _ _ => nn115) rfl ?_
    refine r_bipush 33 20 dX15_mean_31 rfl rfl ?_
    refine r_icmp_ge 44 36 dX15_mean_33 rfl rfl ?_ ?_
    · refine r_aload_n 45 0 dX15_mean_44 rfl rfl rfl ?_
      refine r_iload_n 46 1 dX15_mean_45 rfl rfl rfl ?_
      refine r_callvI 49 (Mc := MTw_meanStatement P W) (o := 100) (as := [aI x1]) (st := []) dX15_mean_46 rfl (c_Tw_meanStatement P W x1 G) lkX15_774 (cmTw_meanStatement P W) rfl rfl rfl (fun _ => dsT_100 P W _) nn100 rfl (Nat.le_of_ble_eq_true rfl) (Nat.le_of_ble_eq_true rfl) (fun _ => rfl) rfl (fun z5 G6 => ?_)
      refine r_to [0] [(0, aR 100)] rfl ?_
      exact s_Tw_mean_b49 P W X17 hX17 z5 G6
    · refine r_aload_n 37 0 dX15_mean_36 rfl rfl rfl ?_
      refine r_iload_n 38 1 dX15_mean_37 rfl rfl rfl ?_
      refine r_callvI 41 (Mc := MTw_meanOperand P W) (o := 100) (as := [aI x1]) (st := []) dX15_mean_38 rfl (c_Tw_meanOperand P W x1 G) lkX15_771 (cmTw_meanOperand P W) rfl rfl rfl (fun _ => dsT_100 P W _) nn100 rfl (Nat.le_of_ble_eq_true rfl) (Nat.le_of_ble_eq_true rfl) (fun _ => rfl) rfl (fun z7 G8 => ?_)
      refine r_goto 49 dX15_mean_41 rfl ?_
      refine r_to [0] [(0, aR 100)] rfl ?_
      exact s_Tw_mean_b49 P W X17 hX17 z7 G8
theorem sl_Tw_mean_17 (P W : Int) (x1 : Int) (G : St) : SS (MTw_mean P W) some 17 [(0, aR 100), (1, aI x1)] [] G (Tw_mean_l17 P W x1 G) := by
  exact SS.loop (σ := Int × St) (fun s => [(0, aR 100), (1, aI (s.1))]) (fun s => s.2) (fun s => Tw_mean_s17 P W s.1 s.2) (fun X17 hX17 s => s_Tw_mean_s17 P W   X17 hX17 s.1 s.2) (x1, G)
theorem s_Tw_mean (P W : Int) (G : St) : SS (MTw_mean P W) some 0 [(0, aR 100)] [] G (Tw_mean P W G) := by
  refine r_aload_n 1 0 dX15_mean_0 rfl rfl rfl ?_
  refine r_iconst 2 0 dX15_mean_1 rfl rfl ?_
  refine r_putI 5 dX15_mean_2 fkX15_765 (fun _ => dsT_100 P W _) nn100 rfl rfl ?_
  refine ss_tk (fun G1 => ?_)
  refine r_aload_n 6 0 dX15_mean_5 rfl rfl rfl ?_
  refine r_iconst 7 0 dX15_mean_6 rfl rfl ?_
  refine r_putI 10 dX15_mean_7 fkX15_768 (fun _ => dsT_100 P W _) nn100 rfl rfl ?_
  refine ss_tk (fun G2 => ?_)
  refine r_aload_n 11 0 dX15_mean_10 rfl rfl rfl ?_
  refine r_iconst 12 0 dX15_mean_11 rfl rfl ?_
  refine r_putI 15 dX15_mean_12 fkX15_681 (fun _ => dsT_100 P W _) nn100 rfl rfl ?_
  refine ss_tk (fun G3 => ?_)
  refine r_iconst 16 0 dX15_mean_15 rfl rfl ?_
  refine r_istore_n 17 [(1, aI 0), (0, aR 100)] dX15_mean_16 rfl rfl rfl rfl ?_
  refine r_to [1, 0] [(0, aR 100), (1, aI 0)] rfl ?_
  exact sl_Tw_mean_17 P W 0 G3
theorem c_Tw_mean (P W : Int) (G : St) : MG (MTw_mean P W) [aR 100] G (Tw_mean P W G) := MG.of plX15 (Nat.le_of_ble_eq_true rfl) (s_Tw_mean P W G)
theorem s_Tw_truth_b19 (P W : Int) (G : St) : SS (MTw_truth P W) some 19 [] [] G (Tw_truth_b19 P W G) := by
  refine r_ldc2 22 (-1) dX15_truth_19 q2715 (by decide) rfl rfl ?_
  exact r_lreturn dX15_truth_22 rfl
theorem s_Tw_truth_b34 (P W : Int) (x1 : Int) (G : St) : SS (MTw_truth P W) some 34 [(0, aR 100), (1, aI x1)] [] G (Tw_truth_b34 P W x1 G) := by
  refine r_aload_n 35 0 dX15_truth_34 rfl rfl rfl ?_
  refine r_get 38 (aR 218) dX15_truth_35 fkX15_240 (fun _ => dsT_100 P W _) nn100 rfl rfl ?_
  refine r_iload_n 39 1 dX15_truth_38 rfl rfl rfl ?_
  refine r_lald 40 dX15_truth_39 (fun _ _ _ => dsT_218 P W _) (fun _ _ => nn218) rfl ?_
  exact r_lreturn dX15_truth_40 rfl
theorem s_Tw_truth (P W : Int) (x1 : Int) (G : St) : SS (MTw_truth P W) some 0 [(0, aR 100), (1, aI x1)] [] G (Tw_truth P W x1 G) := by
  refine r_aload_n 1 0 dX15_truth_0 rfl rfl rfl ?_
  refine r_get 4 (aI (G 100 83)) dX15_truth_1 fkX15_848 (fun _ => dsT_100 P W _) nn100 rfl rfl ?_
  refine r_if_eq 19 7 dX15_truth_4 rfl rfl ?_ ?_
  · refine r_to [] [] rfl ?_
    exact s_Tw_truth_b19 P W G
  · refine r_iload_n 8 1 dX15_truth_7 rfl rfl rfl ?_
    refine r_if_lt 19 11 dX15_truth_8 rfl rfl ?_ ?_
    · refine r_to [] [] rfl ?_
      exact s_Tw_truth_b19 P W G
    · refine r_iload_n 12 1 dX15_truth_11 rfl rfl rfl ?_
      refine r_aload_n 13 0 dX15_truth_12 rfl rfl rfl ?_
      refine r_get 16 (aI (G 100 69)) dX15_truth_13 fkX15_672 (fun _ => dsT_100 P W _) nn100 rfl rfl ?_
      refine r_icmp_lt 23 19 dX15_truth_16 rfl rfl ?_ ?_
      · refine r_aload_n 24 0 dX15_truth_23 rfl rfl rfl ?_
        refine r_get 27 (aI (G 100 119)) dX15_truth_24 fkX15_777 (fun _ => dsT_100 P W _) nn100 rfl rfl ?_
        refine r_if_ne 34 30 dX15_truth_27 rfl rfl ?_ ?_
        · exact s_Tw_truth_b34 P W x1 G
        · refine r_aload_n 31 0 dX15_truth_30 rfl rfl rfl ?_
          refine r_callvV 34 (Mc := MTw_mean P W) (o := 100) (as := []) (st := []) dX15_truth_31 rfl (c_Tw_mean P W G) lkX15_869 (cmTw_mean P W) rfl rfl rfl (fun _ => dsT_100 P W _) nn100 rfl (Nat.le_of_ble_eq_true rfl) (Nat.le_of_ble_eq_true rfl) (fun _ => rfl) rfl (fun z1 G2 => ?_)
          exact s_Tw_truth_b34 P W x1 G2
      · refine r_to [] [] rfl ?_
        exact s_Tw_truth_b19 P W G
theorem c_Tw_truth (P W : Int) (x1 : Int) (G : St) : MG (MTw_truth P W) [aR 100, aI x1] G (Tw_truth P W x1 G) := MG.of plX15 (Nat.le_of_ble_eq_true rfl) (s_Tw_truth P W x1 G)
