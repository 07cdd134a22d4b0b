set_option maxRecDepth 100000
theorem s_Rd_isSign (P W : Int) (x1 : Int) (G : St) : SS (MRd_isSign P W) some 0 [(0, aR 150), (1, aI x1)] [] G (Rd_isSign x1 G) := by
  refine r_aload_n 1 0 dX8_isSign_0 rfl rfl rfl ?_
  refine r_callvV 4 (Mc := MRd_skip P W) (o := 150) (as := []) (st := []) dX8_isSign_1 rfl (c_Rd_skip P W G) lkX8_93 (cmRd_skip P W) rfl rfl rfl (fun _ => dsC_150 P W _) nn150 rfl (Nat.le_of_ble_eq_true rfl) (Nat.le_of_ble_eq_true rfl) (fun _ => rfl) rfl (fun z1 G2 => ?_)
  refine r_aload_n 5 0 dX8_isSign_4 rfl rfl rfl ?_
  refine r_iconst 6 0 dX8_isSign_5 rfl rfl ?_
  refine r_callvI 9 (Mc := MRd_look P W) (o := 150) (as := [aI 0]) (st := []) dX8_isSign_6 rfl (c_Rd_look P W 0 G2) lkX8_103 (cmRd_look P W) rfl rfl rfl (fun _ => dsC_150 P W _) nn150 rfl (Nat.le_of_ble_eq_true rfl) (Nat.le_of_ble_eq_true rfl) (fun _ => rfl) rfl (fun z3 G4 => ?_)
  refine r_iload_n 10 1 dX8_isSign_9 rfl rfl rfl ?_
  refine SS.phi (fun VV_ => ckB VV_ 2 (some (VV_, G4))) ?_
  refine r_icmp_ne 17 13 dX8_isSign_10 rfl rfl ?_ ?_
  · refine r_iconst 18 0 dX8_isSign_17 rfl rfl ?_
    exact r_zreturn dX8_isSign_18 rfl
  · refine r_iconst 14 1 dX8_isSign_13 rfl rfl ?_
    refine r_goto 18 dX8_isSign_14 rfl ?_
    exact r_zreturn dX8_isSign_18 rfl
theorem c_Rd_isSign (P W : Int) (x1 : Int) (G : St) : MG (MRd_isSign P W) [aR 150, aI x1] G (Rd_isSign x1 G) := MG.of plX8 (Nat.le_of_ble_eq_true rfl) (s_Rd_isSign P W x1 G)
theorem s_Rd_bad (P W : Int) (G : St) : SS (MRd_bad P W) some 0 [(0, aR 150)] [] G (Rd_bad G) := by
  refine r_aload_n 1 0 dX8_bad_0 rfl rfl rfl ?_
  refine r_get 4 (aR 130) dX8_bad_1 fkX8_27 (fun _ => dsC_150 P W _) nn150 rfl rfl ?_
  refine r_iconst 5 1 dX8_bad_4 rfl rfl ?_
  refine r_aload_n 6 0 dX8_bad_5 rfl rfl rfl ?_
  refine r_get 9 (aI (G 150 2)) dX8_bad_6 fkX8_31 (fun _ => dsC_150 P W _) nn150 rfl rfl ?_
  refine r_callvV 12 (Mc := MFt_set P W) (o := 130) (as := [aI 1, aI (G 150 2)]) (st := []) dX8_bad_9 rfl (c_Ft_set P W 1 (G 150 2) G) lkX8_37 (cmFt_set P W) rfl rfl rfl (fun _ => dsC_130 P W _) nn130 rfl (Nat.le_of_ble_eq_true rfl) (Nat.le_of_ble_eq_true rfl) (fun _ => rfl) rfl (fun z1 G2 => ?_)
  exact r_return dX8_bad_12 rfl
theorem c_Rd_bad (P W : Int) (G : St) : MG (MRd_bad P W) [aR 150] G (Rd_bad G) := MG.of plX8 (Nat.le_of_ble_eq_true rfl) (s_Rd_bad P W G)
theorem s_Rd_isAlone (P W : Int) (x1 : Int) (x2 : Int) (G : St) : SS (MRd_isAlone P W) some 0 [(0, aR 150), (1, aI x1), (2, aI x2)] [] G (Rd_isAlone x1 x2 G) := by
  refine r_aload_n 1 0 dX8_isAlone_0 rfl rfl rfl ?_
  refine r_iload_n 2 1 dX8_isAlone_1 rfl rfl rfl ?_
  refine r_callvI 5 (Mc := MRd_isSign P W) (o := 150) (as := [aI x1]) (st := []) dX8_isAlone_2 rfl (c_Rd_isSign P W x1 G) lkX8_107 (cmRd_isSign P W) rfl rfl rfl (fun _ => dsC_150 P W _) nn150 rfl (Nat.le_of_ble_eq_true rfl) (Nat.le_of_ble_eq_true rfl) (fun _ => rfl) rfl (fun z1 G2 => ?_)
  refine r_if_eq 21 8 dX8_isAlone_5 rfl rfl ?_ ?_
  · refine r_iconst 22 0 dX8_isAlone_21 rfl rfl ?_
    exact r_zreturn dX8_isAlone_22 rfl
  · refine r_aload_n 9 0 dX8_isAlone_8 rfl rfl rfl ?_
    refine r_iconst 10 1 dX8_isAlone_9 rfl rfl ?_
    refine r_callvI 13 (Mc := MRd_look P W) (o := 150) (as := [aI 1]) (st := []) dX8_isAlone_10 rfl (c_Rd_look P W 1 G2) lkX8_103 (cmRd_look P W) rfl rfl rfl (fun _ => dsC_150 P W _) nn150 rfl (Nat.le_of_ble_eq_true rfl) (Nat.le_of_ble_eq_true rfl) (fun _ => rfl) rfl (fun z3 G4 => ?_)
    refine r_iload_n 14 2 dX8_isAlone_13 rfl rfl rfl ?_
    refine SS.phi (fun VV_ => ckB VV_ 2 (some (VV_, G4))) ?_
    refine r_icmp_eq 21 17 dX8_isAlone_14 rfl rfl ?_ ?_
    · refine r_iconst 22 0 dX8_isAlone_21 rfl rfl ?_
      exact r_zreturn dX8_isAlone_22 rfl
    · refine r_iconst 18 1 dX8_isAlone_17 rfl rfl ?_
      refine r_goto 22 dX8_isAlone_18 rfl ?_
      exact r_zreturn dX8_isAlone_22 rfl
theorem c_Rd_isAlone (P W : Int) (x1 : Int) (x2 : Int) (G : St) : MG (MRd_isAlone P W) [aR 150, aI x1, aI x2] G (Rd_isAlone x1 x2 G) := MG.of plX8 (Nat.le_of_ble_eq_true rfl) (s_Rd_isAlone P W x1 x2 G)
theorem s_Rd_sign_b36 (P W : Int) (s0 : Int) (G : St) : SS (MRd_sign P W) some 36 [(0, aR 150)] [aI s0] G (Rd_sign_b36 s0 G) := by
  refine r_istore_n 37 [(2, aI s0), (0, aR 150)] dX8_sign_36 rfl rfl rfl rfl ?_
  refine r_iload_n 38 0 dX8_sign_37 rfl rfl rfl ?_
  refine r_if_eq 54 41 dX8_sign_38 rfl rfl ?_ ?_
  · refine r_aload_n 55 1 dX8_sign_54 rfl rfl rfl ?_
    refine r_callvV 58 (Mc := MRd_bad P W) (o := 150) (as := []) (st := []) dX8_sign_55 rfl (c_Rd_bad P W G) lkX8_100 (cmRd_bad P W) rfl rfl rfl (fun _ => dsC_150 P W _) nn150 rfl (Nat.le_of_ble_eq_true rfl) (Nat.le_of_ble_eq_true rfl) (fun _ => rfl) rfl (fun z7 G8 => ?_)
    exact r_return dX8_sign_58 rfl
  · refine r_aload_n 42 1 dX8_sign_41 rfl rfl rfl ?_
    refine r_dup 43 dX8_sign_42 rfl rfl ?_
    refine r_get 46 (aI (G 150 2)) dX8_sign_43 fkX8_31 (fun _ => dsC_150 P W _) nn150 rfl rfl ?_
    refine r_iconst 47 1 dX8_sign_46 rfl rfl ?_
    refine r_iadd 48 dX8_sign_47 rfl ?_
    refine r_putI 51 dX8_sign_48 fkX8_31 (fun _ => dsC_150 P W _) nn150 rfl rfl ?_
    refine ss_tk (fun G9 => ?_)
    refine r_goto 58 dX8_sign_51 rfl ?_
    exact r_return dX8_sign_58 rfl
theorem s_Rd_sign (P W : Int) (x1 : Int) (G : St) : SS (MRd_sign P W) some 0 [(0, aR 150), (1, aI x1)] [] G (Rd_sign x1 G) := by
  refine r_aload_n 1 0 dX8_sign_0 rfl rfl rfl ?_
  refine r_callvV 4 (Mc := MRd_skip P W) (o := 150) (as := []) (st := []) dX8_sign_1 rfl (c_Rd_skip P W G) lkX8_93 (cmRd_skip P W) rfl rfl rfl (fun _ => dsC_150 P W _) nn150 rfl (Nat.le_of_ble_eq_true rfl) (Nat.le_of_ble_eq_true rfl) (fun _ => rfl) rfl (fun z1 G2 => ?_)
  refine r_aload_n 5 0 dX8_sign_4 rfl rfl rfl ?_
  refine r_get 8 (aR 130) dX8_sign_5 fkX8_27 (fun _ => dsC_150 P W _) nn150 rfl rfl ?_
  refine r_callvI 11 (Mc := MFt_is P W) (o := 130) (as := []) (st := []) dX8_sign_8 rfl (c_Ft_is P W G2) lkX8_96 (cmFt_is P W) rfl rfl rfl (fun _ => dsC_130 P W _) nn130 rfl (Nat.le_of_ble_eq_true rfl) (Nat.le_of_ble_eq_true rfl) (fun _ => rfl) rfl (fun z3 G4 => ?_)
  refine r_if_eq 15 14 dX8_sign_11 rfl rfl ?_ ?_
  · refine r_iload_n 16 1 dX8_sign_15 rfl rfl rfl ?_
    refine r_bipush 18 61 dX8_sign_16 rfl rfl ?_
    refine r_icmp_ne 31 21 dX8_sign_18 rfl rfl ?_ ?_
    · refine r_aload_n 32 0 dX8_sign_31 rfl rfl rfl ?_
      refine r_iload_n 33 1 dX8_sign_32 rfl rfl rfl ?_
      refine r_callvI 36 (Mc := MRd_isSign P W) (o := 150) (as := [aI x1]) (st := []) dX8_sign_33 rfl (c_Rd_isSign P W x1 G4) lkX8_107 (cmRd_isSign P W) rfl rfl rfl (fun _ => dsC_150 P W _) nn150 rfl (Nat.le_of_ble_eq_true rfl) (Nat.le_of_ble_eq_true rfl) (fun _ => rfl) rfl (fun z5 G6 => ?_)
      refine r_to [0] [(0, aR 150)] rfl ?_
      exact s_Rd_sign_b36 P W z5 G6
    · refine r_aload_n 22 0 dX8_sign_21 rfl rfl rfl ?_
      refine r_iload_n 23 1 dX8_sign_22 rfl rfl rfl ?_
      refine r_bipush 25 61 dX8_sign_23 rfl rfl ?_
      refine r_callvI 28 (Mc := MRd_isAlone P W) (o := 150) (as := [aI x1, aI 61]) (st := []) dX8_sign_25 rfl (c_Rd_isAlone P W x1 61 G4) lkX8_110 (cmRd_isAlone P W) rfl rfl rfl (fun _ => dsC_150 P W _) nn150 rfl (Nat.le_of_ble_eq_true rfl) (Nat.le_of_ble_eq_true rfl) (fun _ => rfl) rfl (fun z10 G11 => ?_)
      refine r_goto 36 dX8_sign_28 rfl ?_
      refine r_to [0] [(0, aR 150)] rfl ?_
      exact s_Rd_sign_b36 P W z10 G11
  · exact r_return dX8_sign_14 rfl
theorem c_Rd_sign (P W : Int) (x1 : Int) (G : St) : MG (MRd_sign P W) [aR 150, aI x1] G (Rd_sign x1 G) := MG.of plX8 (Nat.le_of_ble_eq_true rfl) (s_Rd_sign P W x1 G)
theorem s_Rd_is (P W : Int) (x1 : Int) (x2 : Int) (x3 : Int) (G : St) : SS (MRd_is P W) some 0 [(0, aR 150), (1, aR x1), (2, aI x2), (3, aI x3)] [] G (Rd_is x1 x2 x3 G) := by
  refine r_aload_n 1 0 dX8_is_0 rfl rfl rfl ?_
  refine r_aload_n 2 1 dX8_is_1 rfl rfl rfl ?_
  refine r_putR 5 dX8_is_2 fkX8_305 (fun _ => dsC_150 P W _) nn150 rfl rfl rfl ?_
  refine ss_tk (fun G1 => ?_)
  refine r_aload_n 6 0 dX8_is_5 rfl rfl rfl ?_
  refine r_iload_n 7 2 dX8_is_6 rfl rfl rfl ?_
  refine r_putI 10 dX8_is_7 fkX8_308 (fun _ => dsC_150 P W _) nn150 rfl rfl ?_
  refine ss_tk (fun G2 => ?_)
  refine r_aload_n 11 0 dX8_is_10 rfl rfl rfl ?_
  refine r_iload_n 12 3 dX8_is_11 rfl rfl rfl ?_
  refine r_putI 15 dX8_is_12 fkX8_311 (fun _ => dsC_150 P W _) nn150 rfl rfl ?_
  refine ss_tk (fun G3 => ?_)
  exact r_return dX8_is_15 rfl
theorem c_Rd_is (P W : Int) (x1 : Int) (x2 : Int) (x3 : Int) (G : St) : MG (MRd_is P W) [aR 150, aR x1, aI x2, aI x3] G (Rd_is x1 x2 x3 G) := MG.of plX8 (Nat.le_of_ble_eq_true rfl) (s_Rd_is P W x1 x2 x3 G)
theorem s_Rd_findOperator_b250 (P W : Int) (x2 : Int) (G : St) : SS (MRd_findOperator P W) some 250 [(0, aR 150), (2, aI x2)] [] G (Rd_findOperator_b250 x2 G) := by
  refine r_iload_n 251 1 dX8_findOperator_250 rfl rfl rfl ?_
  refine r_bipush 253 61 dX8_findOperator_251 rfl rfl ?_
  refine r_icmp_ne 461 256 dX8_findOperator_253 rfl rfl ?_ ?_
  · exact r_return dX8_findOperator_461 rfl
  · refine r_aload_n 257 0 dX8_findOperator_256 rfl rfl rfl ?_
    refine r_gets 260 44 dX8_findOperator_257 q1214 rfl rfl ?_
    refine r_iconst 261 2 dX8_findOperator_260 rfl rfl ?_
    refine r_iconst 262 5 dX8_findOperator_261 rfl rfl ?_
    refine r_callvV 265 (Mc := MRd_is P W) (o := 150) (as := [aR 44, aI 2, aI 5]) (st := []) dX8_findOperator_262 rfl (c_Rd_is P W 44 2 5 G) lkX8_314 (cmRd_is P W) rfl rfl rfl (fun _ => dsC_150 P W _) nn150 rfl (Nat.le_of_ble_eq_true rfl) (Nat.le_of_ble_eq_true rfl) (fun _ => rfl) rfl (fun z9 G10 => ?_)
    refine r_goto 461 dX8_findOperator_265 rfl ?_
    exact r_return dX8_findOperator_461 rfl
theorem s_Rd_findOperator_b448 (P W : Int) (G : St) : SS (MRd_findOperator P W) some 448 [(0, aR 150)] [] G (Rd_findOperator_b448 G) := by
  refine r_aload_n 449 0 dX8_findOperator_448 rfl rfl rfl ?_
  refine r_gets 452 55 dX8_findOperator_449 q1236 rfl rfl ?_
  refine r_iconst 453 1 dX8_findOperator_452 rfl rfl ?_
  refine r_bipush 455 9 dX8_findOperator_453 rfl rfl ?_
  refine r_callvV 458 (Mc := MRd_is P W) (o := 150) (as := [aR 55, aI 1, aI 9]) (st := []) dX8_findOperator_455 rfl (c_Rd_is P W 55 1 9 G) lkX8_314 (cmRd_is P W) rfl rfl rfl (fun _ => dsC_150 P W _) nn150 rfl (Nat.le_of_ble_eq_true rfl) (Nat.le_of_ble_eq_true rfl) (fun _ => rfl) rfl (fun z11 G12 => ?_)
  refine r_goto 461 dX8_findOperator_458 rfl ?_
  exact r_return dX8_findOperator_461 rfl
theorem s_Rd_findOperator_b214 (P W : Int) (s0 : Int) (s1 : Int) (s2 : Int) (G : St) : SS (MRd_findOperator P W) some 214 [] [aI s0, aI s1, aR s2, aR 150] G (Rd_findOperator_b214 s0 s1 s2 G) := by
  refine r_callvV 217 (Mc := MRd_is P W) (o := 150) (as := [aR s2, aI s1, aI s0]) (st := []) dX8_findOperator_214 rfl (c_Rd_is P W s2 s1 s0 G) lkX8_314 (cmRd_is P W) rfl rfl rfl (fun _ => dsC_150 P W _) nn150 rfl (Nat.le_of_ble_eq_true rfl) (Nat.le_of_ble_eq_true rfl) (fun _ => rfl) rfl (fun z13 G14 => ?_)
  refine r_goto 461 dX8_findOperator_217 rfl ?_
  exact r_return dX8_findOperator_461 rfl
theorem s_Rd_findOperator_b203 (P W : Int) (x2 : Int) (s0 : Int) (s1 : Int) (G : St) : SS (MRd_findOperator P W) some 203 [(2, aI x2)] [aI s0, aR s1, aR 150] G (Rd_findOperator_b203 x2 s0 s1 G) := by
  refine r_iload_n 204 0 dX8_findOperator_203 rfl rfl rfl ?_
  refine r_bipush 206 38 dX8_findOperator_204 rfl rfl ?_
  refine SS.phi (fun VV_ => Rd_findOperator_b214 VV_ s0 s1 G) ?_
  refine r_icmp_ne 213 209 dX8_findOperator_206 rfl rfl ?_ ?_
  · refine r_iconst 214 4 dX8_findOperator_213 rfl rfl ?_
    refine r_to [] [] rfl ?_
    exact s_Rd_findOperator_b214 P W 4 s0 s1 G
  · refine r_iconst 210 1 dX8_findOperator_209 rfl rfl ?_
    refine r_goto 214 dX8_findOperator_210 rfl ?_
    refine r_to [] [] rfl ?_
    exact s_Rd_findOperator_b214 P W 1 s0 s1 G
theorem s_Rd_findOperator_b192 (P W : Int) (x2 : Int) (s0 : Int) (G : St) : SS (MRd_findOperator P W) some 192 [(2, aI x2)] [aR s0, aR 150] G (Rd_findOperator_b192 x2 s0 G) := by
  refine r_iload_n 193 0 dX8_findOperator_192 rfl rfl rfl ?_
  refine r_bipush 195 38 dX8_findOperator_193 rfl rfl ?_
  refine SS.phi (fun VV_ => Rd_findOperator_b203 x2 VV_ s0 G) ?_
  refine r_icmp_ne 202 198 dX8_findOperator_195 rfl rfl ?_ ?_
  · refine r_iconst 203 1 dX8_findOperator_202 rfl rfl ?_
    exact s_Rd_findOperator_b203 P W x2 1 s0 G
  · refine r_iconst 199 2 dX8_findOperator_198 rfl rfl ?_
    refine r_goto 203 dX8_findOperator_199 rfl ?_
    exact s_Rd_findOperator_b203 P W x2 2 s0 G
theorem s_Rd_findOperator_b176 (P W : Int) (x2 : Int) (G : St) : SS (MRd_findOperator P W) some 176 [(0, aR 150), (2, aI x2)] [] G (Rd_findOperator_b176 x2 G) := by
  refine r_aload_n 177 0 dX8_findOperator_176 rfl rfl rfl ?_
  refine r_iload_n 178 1 dX8_findOperator_177 rfl rfl rfl ?_
  refine r_bipush 180 38 dX8_findOperator_178 rfl rfl ?_
  refine SS.phi (fun VV_ => Rd_findOperator_b192 x2 VV_ G) ?_
  refine r_icmp_ne 189 183 dX8_findOperator_180 rfl rfl ?_ ?_
  · refine r_gets 192 42 dX8_findOperator_189 q1208 rfl rfl ?_
    refine r_to [1] [(2, aI x2)] rfl ?_
    exact s_Rd_findOperator_b192 P W x2 42 G
  · refine r_gets 186 39 dX8_findOperator_183 q1206 rfl rfl ?_
    refine r_goto 192 dX8_findOperator_186 rfl ?_
    refine r_to [1] [(2, aI x2)] rfl ?_
    exact s_Rd_findOperator_b192 P W x2 39 G
theorem s_Rd_findOperator_b422 (P W : Int) (G : St) : SS (MRd_findOperator P W) some 422 [(0, aR 150)] [] G (Rd_findOperator_b422 G) := by
  refine r_aload_n 423 0 dX8_findOperator_422 rfl rfl rfl ?_
  refine r_gets 426 53 dX8_findOperator_423 q1232 rfl rfl ?_
  refine r_iconst 427 1 dX8_findOperator_426 rfl rfl ?_
  refine r_bipush 429 9 dX8_findOperator_427 rfl rfl ?_
  refine r_callvV 432 (Mc := MRd_is P W) (o := 150) (as := [aR 53, aI 1, aI 9]) (st := []) dX8_findOperator_429 rfl (c_Rd_is P W 53 1 9 G) lkX8_314 (cmRd_is P W) rfl rfl rfl (fun _ => dsC_150 P W _) nn150 rfl (Nat.le_of_ble_eq_true rfl) (Nat.le_of_ble_eq_true rfl) (fun _ => rfl) rfl (fun z15 G16 => ?_)
  refine r_goto 461 dX8_findOperator_432 rfl ?_
  exact r_return dX8_findOperator_461 rfl
theorem s_Rd_findOperator_b396 (P W : Int) (G : St) : SS (MRd_findOperator P W) some 396 [(0, aR 150)] [] G (Rd_findOperator_b396 G) := by
  refine r_aload_n 397 0 dX8_findOperator_396 rfl rfl rfl ?_
  refine r_gets 400 51 dX8_findOperator_397 q1228 rfl rfl ?_
  refine r_iconst 401 1 dX8_findOperator_400 rfl rfl ?_
  refine r_bipush 403 8 dX8_findOperator_401 rfl rfl ?_
  refine r_callvV 406 (Mc := MRd_is P W) (o := 150) (as := [aR 51, aI 1, aI 8]) (st := []) dX8_findOperator_403 rfl (c_Rd_is P W 51 1 8 G) lkX8_314 (cmRd_is P W) rfl rfl rfl (fun _ => dsC_150 P W _) nn150 rfl (Nat.le_of_ble_eq_true rfl) (Nat.le_of_ble_eq_true rfl) (fun _ => rfl) rfl (fun z17 G18 => ?_)
  refine r_goto 461 dX8_findOperator_406 rfl ?_
  exact r_return dX8_findOperator_461 rfl
theorem s_Rd_findOperator_b409 (P W : Int) (G : St) : SS (MRd_findOperator P W) some 409 [(0, aR 150)] [] G (Rd_findOperator_b409 G) := by
  refine r_aload_n 410 0 dX8_findOperator_409 rfl rfl rfl ?_
  refine r_gets 413 52 dX8_findOperator_410 q1230 rfl rfl ?_
  refine r_iconst 414 1 dX8_findOperator_413 rfl rfl ?_
  refine r_bipush 416 8 dX8_findOperator_414 rfl rfl ?_
  refine r_callvV 419 (Mc := MRd_is P W) (o := 150) (as := [aR 52, aI 1, aI 8]) (st := []) dX8_findOperator_416 rfl (c_Rd_is P W 52 1 8 G) lkX8_314 (cmRd_is P W) rfl rfl rfl (fun _ => dsC_150 P W _) nn150 rfl (Nat.le_of_ble_eq_true rfl) (Nat.le_of_ble_eq_true rfl) (fun _ => rfl) rfl (fun z19 G20 => ?_)
  refine r_goto 461 dX8_findOperator_419 rfl ?_
  exact r_return dX8_findOperator_461 rfl
theorem s_Rd_findOperator_b435 (P W : Int) (G : St) : SS (MRd_findOperator P W) some 435 [(0, aR 150)] [] G (Rd_findOperator_b435 G) := by
  refine r_aload_n 436 0 dX8_findOperator_435 rfl rfl rfl ?_
  refine r_gets 439 54 dX8_findOperator_436 q1234 rfl rfl ?_
  refine r_iconst 440 1 dX8_findOperator_439 rfl rfl ?_
  refine r_bipush 442 9 dX8_findOperator_440 rfl rfl ?_
  refine r_callvV 445 (Mc := MRd_is P W) (o := 150) (as := [aR 54, aI 1, aI 9]) (st := []) dX8_findOperator_442 rfl (c_Rd_is P W 54 1 9 G) lkX8_314 (cmRd_is P W) rfl rfl rfl (fun _ => dsC_150 P W _) nn150 rfl (Nat.le_of_ble_eq_true rfl) (Nat.le_of_ble_eq_true rfl) (fun _ => rfl) rfl (fun z21 G22 => ?_)
  refine r_goto 461 dX8_findOperator_445 rfl ?_
  exact r_return dX8_findOperator_461 rfl
theorem s_Rd_findOperator_b326 (P W : Int) (s0 : Int) (s1 : Int) (s2 : Int) (G : St) : SS (MRd_findOperator P W) some 326 [] [aI s0, aI s1, aR s2, aR 150] G (Rd_findOperator_b326 s0 s1 s2 G) := by
  refine r_callvV 329 (Mc := MRd_is P W) (o := 150) (as := [aR s2, aI s1, aI s0]) (st := []) dX8_findOperator_326 rfl (c_Rd_is P W s2 s1 s0 G) lkX8_314 (cmRd_is P W) rfl rfl rfl (fun _ => dsC_150 P W _) nn150 rfl (Nat.le_of_ble_eq_true rfl) (Nat.le_of_ble_eq_true rfl) (fun _ => rfl) rfl (fun z23 G24 => ?_)
  refine r_goto 461 dX8_findOperator_329 rfl ?_
  exact r_return dX8_findOperator_461 rfl
theorem s_Rd_findOperator_b313 (P W : Int) (x2 : Int) (s0 : Int) (s1 : Int) (G : St) : SS (MRd_findOperator P W) some 313 [(2, aI x2)] [aI s0, aR s1, aR 150] G (Rd_findOperator_b313 x2 s0 s1 G) := by
  refine r_iload_n 314 0 dX8_findOperator_313 rfl rfl rfl ?_
  refine r_bipush 316 60 dX8_findOperator_314 rfl rfl ?_
  refine SS.phi (fun VV_ => Rd_findOperator_b326 VV_ s0 s1 G) ?_
  refine r_icmp_ne 324 319 dX8_findOperator_316 rfl rfl ?_ ?_
  · refine r_bipush 326 6 dX8_findOperator_324 rfl rfl ?_
    refine r_to [] [] rfl ?_
    exact s_Rd_findOperator_b326 P W 6 s0 s1 G
  · refine r_bipush 321 7 dX8_findOperator_319 rfl rfl ?_
    refine r_goto 326 dX8_findOperator_321 rfl ?_
    refine r_to [] [] rfl ?_
    exact s_Rd_findOperator_b326 P W 7 s0 s1 G
theorem s_Rd_findOperator_b296 (P W : Int) (x2 : Int) (s0 : Int) (G : St) : SS (MRd_findOperator P W) some 296 [(2, aI x2)] [aR s0, aR 150] G (Rd_findOperator_b296 x2 s0 G) := by
  refine r_iload_n 297 0 dX8_findOperator_296 rfl rfl rfl ?_
  refine r_bipush 299 61 dX8_findOperator_297 rfl rfl ?_
  refine SS.phi (fun VV_ => Rd_findOperator_b313 x2 VV_ s0 G) ?_
  refine r_icmp_eq 308 302 dX8_findOperator_299 rfl rfl ?_ ?_
  · refine r_iconst 309 2 dX8_findOperator_308 rfl rfl ?_
    refine r_goto 313 dX8_findOperator_309 rfl ?_
    exact s_Rd_findOperator_b313 P W x2 2 s0 G
  · refine r_iload_n 303 0 dX8_findOperator_302 rfl rfl rfl ?_
    refine r_bipush 305 60 dX8_findOperator_303 rfl rfl ?_
    refine SS.phi (fun VV_ => Rd_findOperator_b313 x2 VV_ s0 G) ?_
    refine r_icmp_ne 312 308 dX8_findOperator_305 rfl rfl ?_ ?_
    · refine r_iconst 313 1 dX8_findOperator_312 rfl rfl ?_
      exact s_Rd_findOperator_b313 P W x2 1 s0 G
    · refine r_iconst 309 2 dX8_findOperator_308 rfl rfl ?_
      refine r_goto 313 dX8_findOperator_309 rfl ?_
      exact s_Rd_findOperator_b313 P W x2 2 s0 G
theorem s_Rd_findOperator_b268 (P W : Int) (x2 : Int) (G : St) : SS (MRd_findOperator P W) some 268 [(0, aR 150), (2, aI x2)] [] G (Rd_findOperator_b268 x2 G) := by
  refine r_aload_n 269 0 dX8_findOperator_268 rfl rfl rfl ?_
  refine r_iload_n 270 1 dX8_findOperator_269 rfl rfl rfl ?_
  refine r_bipush 272 61 dX8_findOperator_270 rfl rfl ?_
  refine SS.phi (fun VV_ => Rd_findOperator_b296 x2 VV_ G) ?_
  refine r_icmp_ne 281 275 dX8_findOperator_272 rfl rfl ?_ ?_
  · refine r_iload_n 282 1 dX8_findOperator_281 rfl rfl rfl ?_
    refine r_bipush 284 60 dX8_findOperator_282 rfl rfl ?_
    refine SS.phi (fun VV_ => Rd_findOperator_b296 x2 VV_ G) ?_
    refine r_icmp_ne 293 287 dX8_findOperator_284 rfl rfl ?_ ?_
    · refine r_gets 296 45 dX8_findOperator_293 q1220 rfl rfl ?_
      refine r_to [1] [(2, aI x2)] rfl ?_
      exact s_Rd_findOperator_b296 P W x2 45 G
    · refine r_gets 290 49 dX8_findOperator_287 q1218 rfl rfl ?_
      refine r_goto 296 dX8_findOperator_290 rfl ?_
      refine r_to [1] [(2, aI x2)] rfl ?_
      exact s_Rd_findOperator_b296 P W x2 49 G
  · refine r_gets 278 46 dX8_findOperator_275 q1216 rfl rfl ?_
    refine r_goto 296 dX8_findOperator_278 rfl ?_
    refine r_to [1] [(2, aI x2)] rfl ?_
    exact s_Rd_findOperator_b296 P W x2 46 G
theorem s_Rd_findOperator_b232 (P W : Int) (x2 : Int) (G : St) : SS (MRd_findOperator P W) some 232 [(0, aR 150), (2, aI x2)] [] G (Rd_findOperator_b232 x2 G) := by
  refine r_iload_n 233 1 dX8_findOperator_232 rfl rfl rfl ?_
  refine r_bipush 235 61 dX8_findOperator_233 rfl rfl ?_
  refine r_icmp_ne 461 238 dX8_findOperator_235 rfl rfl ?_ ?_
  · exact r_return dX8_findOperator_461 rfl
  · refine r_aload_n 239 0 dX8_findOperator_238 rfl rfl rfl ?_
    refine r_gets 242 43 dX8_findOperator_239 q1212 rfl rfl ?_
    refine r_iconst 243 2 dX8_findOperator_242 rfl rfl ?_
    refine r_iconst 244 5 dX8_findOperator_243 rfl rfl ?_
    refine r_callvV 247 (Mc := MRd_is P W) (o := 150) (as := [aR 43, aI 2, aI 5]) (st := []) dX8_findOperator_244 rfl (c_Rd_is P W 43 2 5 G) lkX8_314 (cmRd_is P W) rfl rfl rfl (fun _ => dsC_150 P W _) nn150 rfl (Nat.le_of_ble_eq_true rfl) (Nat.le_of_ble_eq_true rfl) (fun _ => rfl) rfl (fun z25 G26 => ?_)
    refine r_goto 461 dX8_findOperator_247 rfl ?_
    exact r_return dX8_findOperator_461 rfl
theorem s_Rd_findOperator_b390 (P W : Int) (s0 : Int) (s1 : Int) (s2 : Int) (G : St) : SS (MRd_findOperator P W) some 390 [] [aI s0, aI s1, aR s2, aR 150] G (Rd_findOperator_b390 s0 s1 s2 G) := by
  refine r_callvV 393 (Mc := MRd_is P W) (o := 150) (as := [aR s2, aI s1, aI s0]) (st := []) dX8_findOperator_390 rfl (c_Rd_is P W s2 s1 s0 G) lkX8_314 (cmRd_is P W) rfl rfl rfl (fun _ => dsC_150 P W _) nn150 rfl (Nat.le_of_ble_eq_true rfl) (Nat.le_of_ble_eq_true rfl) (fun _ => rfl) rfl (fun z27 G28 => ?_)
  refine r_goto 461 dX8_findOperator_393 rfl ?_
  exact r_return dX8_findOperator_461 rfl
theorem s_Rd_findOperator_b377 (P W : Int) (x2 : Int) (s0 : Int) (s1 : Int) (G : St) : SS (MRd_findOperator P W) some 377 [(2, aI x2)] [aI s0, aR s1, aR 150] G (Rd_findOperator_b377 x2 s0 s1 G) := by
  refine r_iload_n 378 0 dX8_findOperator_377 rfl rfl rfl ?_
  refine r_bipush 380 62 dX8_findOperator_378 rfl rfl ?_
  refine SS.phi (fun VV_ => Rd_findOperator_b390 VV_ s0 s1 G) ?_
  refine r_icmp_ne 388 383 dX8_findOperator_380 rfl rfl ?_ ?_
  · refine r_bipush 390 6 dX8_findOperator_388 rfl rfl ?_
    refine r_to [] [] rfl ?_
    exact s_Rd_findOperator_b390 P W 6 s0 s1 G
  · refine r_bipush 385 7 dX8_findOperator_383 rfl rfl ?_
    refine r_goto 390 dX8_findOperator_385 rfl ?_
    refine r_to [] [] rfl ?_
    exact s_Rd_findOperator_b390 P W 7 s0 s1 G
theorem s_Rd_findOperator_b360 (P W : Int) (x2 : Int) (s0 : Int) (G : St) : SS (MRd_findOperator P W) some 360 [(2, aI x2)] [aR s0, aR 150] G (Rd_findOperator_b360 x2 s0 G) := by
  refine r_iload_n 361 0 dX8_findOperator_360 rfl rfl rfl ?_
  refine r_bipush 363 61 dX8_findOperator_361 rfl rfl ?_
  refine SS.phi (fun VV_ => Rd_findOperator_b377 x2 VV_ s0 G) ?_
  refine r_icmp_eq 372 366 dX8_findOperator_363 rfl rfl ?_ ?_
  · refine r_iconst 373 2 dX8_findOperator_372 rfl rfl ?_
    refine r_goto 377 dX8_findOperator_373 rfl ?_
    exact s_Rd_findOperator_b377 P W x2 2 s0 G
  · refine r_iload_n 367 0 dX8_findOperator_366 rfl rfl rfl ?_
    refine r_bipush 369 62 dX8_findOperator_367 rfl rfl ?_
    refine SS.phi (fun VV_ => Rd_findOperator_b377 x2 VV_ s0 G) ?_
    refine r_icmp_ne 376 372 dX8_findOperator_369 rfl rfl ?_ ?_
    · refine r_iconst 377 1 dX8_findOperator_376 rfl rfl ?_
      exact s_Rd_findOperator_b377 P W x2 1 s0 G
    · refine r_iconst 373 2 dX8_findOperator_372 rfl rfl ?_
      refine r_goto 377 dX8_findOperator_373 rfl ?_
      exact s_Rd_findOperator_b377 P W x2 2 s0 G
theorem s_Rd_findOperator_b332 (P W : Int) (x2 : Int) (G : St) : SS (MRd_findOperator P W) some 332 [(0, aR 150), (2, aI x2)] [] G (Rd_findOperator_b332 x2 G) := by
  refine r_aload_n 333 0 dX8_findOperator_332 rfl rfl rfl ?_
  refine r_iload_n 334 1 dX8_findOperator_333 rfl rfl rfl ?_
  refine r_bipush 336 61 dX8_findOperator_334 rfl rfl ?_
  refine SS.phi (fun VV_ => Rd_findOperator_b360 x2 VV_ G) ?_
  refine r_icmp_ne 345 339 dX8_findOperator_336 rfl rfl ?_ ?_
  · refine r_iload_n 346 1 dX8_findOperator_345 rfl rfl rfl ?_
    refine r_bipush 348 62 dX8_findOperator_346 rfl rfl ?_
    refine SS.phi (fun VV_ => Rd_findOperator_b360 x2 VV_ G) ?_
    refine r_icmp_ne 357 351 dX8_findOperator_348 rfl rfl ?_ ?_
    · refine r_gets 360 47 dX8_findOperator_357 q1226 rfl rfl ?_
      refine r_to [1] [(2, aI x2)] rfl ?_
      exact s_Rd_findOperator_b360 P W x2 47 G
    · refine r_gets 354 50 dX8_findOperator_351 q1224 rfl rfl ?_
      refine r_goto 360 dX8_findOperator_354 rfl ?_
      refine r_to [1] [(2, aI x2)] rfl ?_
      exact s_Rd_findOperator_b360 P W x2 50 G
  · refine r_gets 342 48 dX8_findOperator_339 q1222 rfl rfl ?_
    refine r_goto 360 dX8_findOperator_342 rfl ?_
    refine r_to [1] [(2, aI x2)] rfl ?_
    exact s_Rd_findOperator_b360 P W x2 48 G
theorem s_Rd_findOperator_b220 (P W : Int) (G : St) : SS (MRd_findOperator P W) some 220 [(0, aR 150)] [] G (Rd_findOperator_b220 G) := by
  refine r_aload_n 221 0 dX8_findOperator_220 rfl rfl rfl ?_
  refine r_gets 224 41 dX8_findOperator_221 q1210 rfl rfl ?_
  refine r_iconst 225 1 dX8_findOperator_224 rfl rfl ?_
  refine r_iconst 226 3 dX8_findOperator_225 rfl rfl ?_
  refine r_callvV 229 (Mc := MRd_is P W) (o := 150) (as := [aR 41, aI 1, aI 3]) (st := []) dX8_findOperator_226 rfl (c_Rd_is P W 41 1 3 G) lkX8_314 (cmRd_is P W) rfl rfl rfl (fun _ => dsC_150 P W _) nn150 rfl (Nat.le_of_ble_eq_true rfl) (Nat.le_of_ble_eq_true rfl) (fun _ => rfl) rfl (fun z29 G30 => ?_)
  refine r_goto 461 dX8_findOperator_229 rfl ?_
  exact r_return dX8_findOperator_461 rfl
theorem s_Rd_findOperator_b170 (P W : Int) (s0 : Int) (s1 : Int) (s2 : Int) (G : St) : SS (MRd_findOperator P W) some 170 [] [aI s0, aI s1, aR s2, aR 150] G (Rd_findOperator_b170 s0 s1 s2 G) := by
  refine r_callvV 173 (Mc := MRd_is P W) (o := 150) (as := [aR s2, aI s1, aI s0]) (st := []) dX8_findOperator_170 rfl (c_Rd_is P W s2 s1 s0 G) lkX8_314 (cmRd_is P W) rfl rfl rfl (fun _ => dsC_150 P W _) nn150 rfl (Nat.le_of_ble_eq_true rfl) (Nat.le_of_ble_eq_true rfl) (fun _ => rfl) rfl (fun z31 G32 => ?_)
  refine r_goto 461 dX8_findOperator_173 rfl ?_
  exact r_return dX8_findOperator_461 rfl
theorem s_Rd_findOperator_b159 (P W : Int) (x2 : Int) (s0 : Int) (s1 : Int) (G : St) : SS (MRd_findOperator P W) some 159 [(2, aI x2)] [aI s0, aR s1, aR 150] G (Rd_findOperator_b159 x2 s0 s1 G) := by
  refine r_iload_n 160 0 dX8_findOperator_159 rfl rfl rfl ?_
  refine r_bipush 162 124 dX8_findOperator_160 rfl rfl ?_
  refine SS.phi (fun VV_ => Rd_findOperator_b170 VV_ s0 s1 G) ?_
  refine r_icmp_ne 169 165 dX8_findOperator_162 rfl rfl ?_ ?_
  · refine r_iconst 170 2 dX8_findOperator_169 rfl rfl ?_
    refine r_to [] [] rfl ?_
    exact s_Rd_findOperator_b170 P W 2 s0 s1 G
  · refine r_iconst 166 0 dX8_findOperator_165 rfl rfl ?_
    refine r_goto 170 dX8_findOperator_166 rfl ?_
    refine r_to [] [] rfl ?_
    exact s_Rd_findOperator_b170 P W 0 s0 s1 G
theorem s_Rd_findOperator_b148 (P W : Int) (x2 : Int) (s0 : Int) (G : St) : SS (MRd_findOperator P W) some 148 [(2, aI x2)] [aR s0, aR 150] G (Rd_findOperator_b148 x2 s0 G) := by
  refine r_iload_n 149 0 dX8_findOperator_148 rfl rfl rfl ?_
  refine r_bipush 151 124 dX8_findOperator_149 rfl rfl ?_
  refine SS.phi (fun VV_ => Rd_findOperator_b159 x2 VV_ s0 G) ?_
  refine r_icmp_ne 158 154 dX8_findOperator_151 rfl rfl ?_ ?_
  · refine r_iconst 159 1 dX8_findOperator_158 rfl rfl ?_
    exact s_Rd_findOperator_b159 P W x2 1 s0 G
  · refine r_iconst 155 2 dX8_findOperator_154 rfl rfl ?_
    refine r_goto 159 dX8_findOperator_155 rfl ?_
    exact s_Rd_findOperator_b159 P W x2 2 s0 G
theorem s_Rd_findOperator_b132 (P W : Int) (x2 : Int) (G : St) : SS (MRd_findOperator P W) some 132 [(0, aR 150), (2, aI x2)] [] G (Rd_findOperator_b132 x2 G) := by
  refine r_aload_n 133 0 dX8_findOperator_132 rfl rfl rfl ?_
  refine r_iload_n 134 1 dX8_findOperator_133 rfl rfl rfl ?_
  refine r_bipush 136 124 dX8_findOperator_134 rfl rfl ?_
  refine SS.phi (fun VV_ => Rd_findOperator_b148 x2 VV_ G) ?_
  refine r_icmp_ne 145 139 dX8_findOperator_136 rfl rfl ?_ ?_
  · refine r_gets 148 40 dX8_findOperator_145 q1204 rfl rfl ?_
    refine r_to [1] [(2, aI x2)] rfl ?_
    exact s_Rd_findOperator_b148 P W x2 40 G
  · refine r_gets 142 38 dX8_findOperator_139 q1202 rfl rfl ?_
    refine r_goto 148 dX8_findOperator_142 rfl ?_
    refine r_to [1] [(2, aI x2)] rfl ?_
    exact s_Rd_findOperator_b148 P W x2 38 G
theorem s_Rd_findOperator (P W : Int) (G : St) : SS (MRd_findOperator P W) some 0 [(0, aR 150)] [] G (Rd_findOperator G) := by
  refine r_aload_n 1 0 dX8_findOperator_0 rfl rfl rfl ?_
  refine r_callvV 4 (Mc := MRd_skip P W) (o := 150) (as := []) (st := []) dX8_findOperator_1 rfl (c_Rd_skip P W G) lkX8_93 (cmRd_skip P W) rfl rfl rfl (fun _ => dsC_150 P W _) nn150 rfl (Nat.le_of_ble_eq_true rfl) (Nat.le_of_ble_eq_true rfl) (fun _ => rfl) rfl (fun z1 G2 => ?_)
  refine r_aload_n 5 0 dX8_findOperator_4 rfl rfl rfl ?_
  refine r_gets 8 60 dX8_findOperator_5 q1196 rfl rfl ?_
  refine r_iconst 9 0 dX8_findOperator_8 rfl rfl ?_
  refine r_iconst 10 (-1) dX8_findOperator_9 rfl rfl ?_
  refine r_callvV 13 (Mc := MRd_is P W) (o := 150) (as := [aR 60, aI 0, aI (-1)]) (st := []) dX8_findOperator_10 rfl (c_Rd_is P W 60 0 (-1) G2) lkX8_314 (cmRd_is P W) rfl rfl rfl (fun _ => dsC_150 P W _) nn150 rfl (Nat.le_of_ble_eq_true rfl) (Nat.le_of_ble_eq_true rfl) (fun _ => rfl) rfl (fun z3 G4 => ?_)
  refine r_aload_n 14 0 dX8_findOperator_13 rfl rfl rfl ?_
  refine r_iconst 15 0 dX8_findOperator_14 rfl rfl ?_
  refine r_callvI 18 (Mc := MRd_look P W) (o := 150) (as := [aI 0]) (st := []) dX8_findOperator_15 rfl (c_Rd_look P W 0 G4) lkX8_103 (cmRd_look P W) rfl rfl rfl (fun _ => dsC_150 P W _) nn150 rfl (Nat.le_of_ble_eq_true rfl) (Nat.le_of_ble_eq_true rfl) (fun _ => rfl) rfl (fun z5 G6 => ?_)
  refine r_istore_n 19 [(1, aI z5), (0, aR 150)] dX8_findOperator_18 rfl rfl rfl rfl ?_
  refine r_aload_n 20 1 dX8_findOperator_19 rfl rfl rfl ?_
  refine r_iconst 21 1 dX8_findOperator_20 rfl rfl ?_
  refine r_callvI 24 (Mc := MRd_look P W) (o := 150) (as := [aI 1]) (st := []) dX8_findOperator_21 rfl (c_Rd_look P W 1 G6) lkX8_103 (cmRd_look P W) rfl rfl rfl (fun _ => dsC_150 P W _) nn150 rfl (Nat.le_of_ble_eq_true rfl) (Nat.le_of_ble_eq_true rfl) (fun _ => rfl) rfl (fun z7 G8 => ?_)
  refine r_istore_n 25 [(2, aI z7), (1, aI z5), (0, aR 150)] dX8_findOperator_24 rfl rfl rfl rfl ?_
  refine r_iload_n 26 1 dX8_findOperator_25 rfl rfl rfl ?_
  refine r_lsw 461 [(33, 250, Rd_findOperator_b250 z7 G8), (37, 448, Rd_findOperator_b448 G8), (38, 176, Rd_findOperator_b176 z7 G8), (42, 422, Rd_findOperator_b422 G8), (43, 396, Rd_findOperator_b396 G8), (45, 409, Rd_findOperator_b409 G8), (47, 435, Rd_findOperator_b435 G8), (60, 268, Rd_findOperator_b268 z7 G8), (61, 232, Rd_findOperator_b232 z7 G8), (62, 332, Rd_findOperator_b332 z7 G8), (94, 220, Rd_findOperator_b220 G8), (124, 132, Rd_findOperator_b132 z7 G8)] dX8_findOperator_26 rfl rfl (by decide) ⟨?_, ?_, ?_, ?_, ?_, ?_, ?_, ?_, ?_, ?_, ?_, ?_, trivial⟩ ?_
  · refine r_to [2, 0] [(0, aR 150), (2, aI z7)] rfl ?_
    exact s_Rd_findOperator_b250 P W z7 G8
  · refine r_to [2] [(0, aR 150)] rfl ?_
    exact s_Rd_findOperator_b448 P W G8
  · refine r_to [2, 0] [(0, aR 150), (2, aI z7)] rfl ?_
    exact s_Rd_findOperator_b176 P W z7 G8
  · refine r_to [2] [(0, aR 150)] rfl ?_
    exact s_Rd_findOperator_b422 P W G8
  · refine r_to [2] [(0, aR 150)] rfl ?_
    exact s_Rd_findOperator_b396 P W G8
  · refine r_to [2] [(0, aR 150)] rfl ?_
    exact s_Rd_findOperator_b409 P W G8
  · refine r_to [2] [(0, aR 150)] rfl ?_
    exact s_Rd_findOperator_b435 P W G8
  · refine r_to [2, 0] [(0, aR 150), (2, aI z7)] rfl ?_
    exact s_Rd_findOperator_b268 P W z7 G8
  · refine r_to [2, 0] [(0, aR 150), (2, aI z7)] rfl ?_
    exact s_Rd_findOperator_b232 P W z7 G8
  · refine r_to [2, 0] [(0, aR 150), (2, aI z7)] rfl ?_
    exact s_Rd_findOperator_b332 P W z7 G8
  · refine r_to [2] [(0, aR 150)] rfl ?_
    exact s_Rd_findOperator_b220 P W G8
  · refine r_to [2, 0] [(0, aR 150), (2, aI z7)] rfl ?_
    exact s_Rd_findOperator_b132 P W z7 G8
  · exact r_return dX8_findOperator_461 rfl
theorem c_Rd_findOperator (P W : Int) (G : St) : MG (MRd_findOperator P W) [aR 150] G (Rd_findOperator G) := MG.of plX8 (Nat.le_of_ble_eq_true rfl) (s_Rd_findOperator P W G)
theorem s_Rd_isDigit (P W : Int) (x0 : Int) (G : St) : SS (MRd_isDigit P W) some 0 [(0, aI x0)] [] G (Rd_isDigit x0 G) := by
  refine r_iload_n 1 0 dX8_isDigit_0 rfl rfl rfl ?_
  refine r_bipush 3 48 dX8_isDigit_1 rfl rfl ?_
  refine SS.phi (fun VV_ => ckB VV_ 2 (some (VV_, G))) ?_
  refine r_icmp_lt 16 6 dX8_isDigit_3 rfl rfl ?_ ?_
  · refine r_iconst 17 0 dX8_isDigit_16 rfl rfl ?_
    exact r_zreturn dX8_isDigit_17 rfl
  · refine r_iload_n 7 0 dX8_isDigit_6 rfl rfl rfl ?_
    refine r_bipush 9 57 dX8_isDigit_7 rfl rfl ?_
    refine SS.phi (fun VV_ => ckB VV_ 2 (some (VV_, G))) ?_
    refine r_icmp_gt 16 12 dX8_isDigit_9 rfl rfl ?_ ?_
    · refine r_iconst 17 0 dX8_isDigit_16 rfl rfl ?_
      exact r_zreturn dX8_isDigit_17 rfl
    · refine r_iconst 13 1 dX8_isDigit_12 rfl rfl ?_
      refine r_goto 17 dX8_isDigit_13 rfl ?_
      exact r_zreturn dX8_isDigit_17 rfl
theorem c_Rd_isDigit (P W : Int) (x0 : Int) (G : St) : MG (MRd_isDigit P W) [aI x0] G (Rd_isDigit x0 G) := MG.of plX8 (Nat.le_of_ble_eq_true rfl) (s_Rd_isDigit P W x0 G)
theorem s_Rd_isLetter_b12 (P W : Int) (x0 : Int) (G : St) : SS (MRd_isLetter P W) some 12 [(0, aI x0)] [] G (Rd_isLetter_b12 x0 G) := by
  refine r_iload_n 13 0 dX8_isLetter_12 rfl rfl rfl ?_
  refine r_bipush 15 65 dX8_isLetter_13 rfl rfl ?_
  refine SS.phi (fun VV_ => ckB VV_ 2 (some (VV_, G))) ?_
  refine r_icmp_lt 24 18 dX8_isLetter_15 rfl rfl ?_ ?_
  · refine r_iload_n 25 0 dX8_isLetter_24 rfl rfl rfl ?_
    refine r_bipush 27 95 dX8_isLetter_25 rfl rfl ?_
    refine SS.phi (fun VV_ => ckB VV_ 2 (some (VV_, G))) ?_
    refine r_icmp_ne 34 30 dX8_isLetter_27 rfl rfl ?_ ?_
    · refine r_iconst 35 0 dX8_isLetter_34 rfl rfl ?_
      exact r_zreturn dX8_isLetter_35 rfl
    · refine r_iconst 31 1 dX8_isLetter_30 rfl rfl ?_
      refine r_goto 35 dX8_isLetter_31 rfl ?_
      exact r_zreturn dX8_isLetter_35 rfl
  · refine r_iload_n 19 0 dX8_isLetter_18 rfl rfl rfl ?_
    refine r_bipush 21 90 dX8_isLetter_19 rfl rfl ?_
    refine SS.phi (fun VV_ => ckB VV_ 2 (some (VV_, G))) ?_
    refine r_icmp_le 30 24 dX8_isLetter_21 rfl rfl ?_ ?_
    · refine r_iconst 31 1 dX8_isLetter_30 rfl rfl ?_
      refine r_goto 35 dX8_isLetter_31 rfl ?_
      exact r_zreturn dX8_isLetter_35 rfl
    · refine r_iload_n 25 0 dX8_isLetter_24 rfl rfl rfl ?_
      refine r_bipush 27 95 dX8_isLetter_25 rfl rfl ?_
      refine SS.phi (fun VV_ => ckB VV_ 2 (some (VV_, G))) ?_
      refine r_icmp_ne 34 30 dX8_isLetter_27 rfl rfl ?_ ?_
      · refine r_iconst 35 0 dX8_isLetter_34 rfl rfl ?_
        exact r_zreturn dX8_isLetter_35 rfl
      · refine r_iconst 31 1 dX8_isLetter_30 rfl rfl ?_
        refine r_goto 35 dX8_isLetter_31 rfl ?_
        exact r_zreturn dX8_isLetter_35 rfl
theorem s_Rd_isLetter (P W : Int) (x0 : Int) (G : St) : SS (MRd_isLetter P W) some 0 [(0, aI x0)] [] G (Rd_isLetter x0 G) := by
  refine r_iload_n 1 0 dX8_isLetter_0 rfl rfl rfl ?_
  refine r_bipush 3 97 dX8_isLetter_1 rfl rfl ?_
  refine r_icmp_lt 12 6 dX8_isLetter_3 rfl rfl ?_ ?_
  · exact s_Rd_isLetter_b12 P W x0 G
  · refine r_iload_n 7 0 dX8_isLetter_6 rfl rfl rfl ?_
    refine r_bipush 9 122 dX8_isLetter_7 rfl rfl ?_
    refine SS.phi (fun VV_ => ckB VV_ 2 (some (VV_, G))) ?_
    refine r_icmp_le 30 12 dX8_isLetter_9 rfl rfl ?_ ?_
    · refine r_iconst 31 1 dX8_isLetter_30 rfl rfl ?_
      refine r_goto 35 dX8_isLetter_31 rfl ?_
      exact r_zreturn dX8_isLetter_35 rfl
    · refine r_iload_n 13 0 dX8_isLetter_12 rfl rfl rfl ?_
      refine r_bipush 15 65 dX8_isLetter_13 rfl rfl ?_
      refine SS.phi (fun VV_ => ckB VV_ 2 (some (VV_, G))) ?_
      refine r_icmp_lt 24 18 dX8_isLetter_15 rfl rfl ?_ ?_
      · refine r_iload_n 25 0 dX8_isLetter_24 rfl rfl rfl ?_
        refine r_bipush 27 95 dX8_isLetter_25 rfl rfl ?_
        refine SS.phi (fun VV_ => ckB VV_ 2 (some (VV_, G))) ?_
        refine r_icmp_ne 34 30 dX8_isLetter_27 rfl rfl ?_ ?_
        · refine r_iconst 35 0 dX8_isLetter_34 rfl rfl ?_
          exact r_zreturn dX8_isLetter_35 rfl
        · refine r_iconst 31 1 dX8_isLetter_30 rfl rfl ?_
          refine r_goto 35 dX8_isLetter_31 rfl ?_
          exact r_zreturn dX8_isLetter_35 rfl
      · refine r_iload_n 19 0 dX8_isLetter_18 rfl rfl rfl ?_
        refine r_bipush 21 90 dX8_isLetter_19 rfl rfl ?_
        refine SS.phi (fun VV_ => ckB VV_ 2 (some (VV_, G))) ?_
        refine r_icmp_le 30 24 dX8_isLetter_21 rfl rfl ?_ ?_
        · refine r_iconst 31 1 dX8_isLetter_30 rfl rfl ?_
          refine r_goto 35 dX8_isLetter_31 rfl ?_
          exact r_zreturn dX8_isLetter_35 rfl
        · refine r_iload_n 25 0 dX8_isLetter_24 rfl rfl rfl ?_
          refine r_bipush 27 95 dX8_isLetter_25 rfl rfl ?_
          refine SS.phi (fun VV_ => ckB VV_ 2 (some (VV_, G))) ?_
          refine r_icmp_ne 34 30 dX8_isLetter_27 rfl rfl ?_ ?_
          · refine r_iconst 35 0 dX8_isLetter_34 rfl rfl ?_
            exact r_zreturn dX8_isLetter_35 rfl
          · refine r_iconst 31 1 dX8_isLetter_30 rfl rfl ?_
            refine r_goto 35 dX8_isLetter_31 rfl ?_
            exact r_zreturn dX8_isLetter_35 rfl
theorem c_Rd_isLetter (P W : Int) (x0 : Int) (G : St) : MG (MRd_isLetter P W) [aI x0] G (Rd_isLetter x0 G) := MG.of plX8 (Nat.le_of_ble_eq_true rfl) (s_Rd_isLetter P W x0 G)
theorem s_Rd_wordEnd_b63 (P W : Int) (x1 : Int) (G : St) : SS (MRd_wordEnd P W) some 63 [(1, aI x1)] [] G (Rd_wordEnd_b63 x1 G) := by
  refine r_iload_n 64 0 dX8_wordEnd_63 rfl rfl rfl ?_
  exact r_ireturn dX8_wordEnd_64 rfl
theorem s_Rd_wordEnd_b57 (P W : Int) (X25 : Int × St → Option (Int × St)) (hX25 : ∀ s, So (MRd_wordEnd P W) 25 [(0, aR 150), (1, aI (s.1))] [] s.2 (X25 s)) (x1 : Int) (G : St) : SS (MRd_wordEnd P W) (lk X25 some) 57 [(0, aR 150), (1, aI x1)] [] G (Rd_wordEnd_b57 x1 G) := by
  refine r_iinc 60 [(1, aI (x1 + 1)), (0, aR 150)] 1 dX8_wordEnd_57 rfl rfl rfl rfl ?_
  refine r_goto 25 dX8_wordEnd_60 rfl ?_
  refine r_to [1, 0] [(0, aR 150), (1, aI (x1 + 1))] rfl ?_
  exact SS.back (hX25 (x1 + 1, G))
theorem s_Rd_wordEnd_s25 (P W : Int) (X25 : Int × St → Option (Int × St)) (hX25 : ∀ s, So (MRd_wordEnd P W) 25 [(0, aR 150), (1, aI (s.1))] [] s.2 (X25 s)) (x1 : Int) (G : St) : SS (MRd_wordEnd P W) (lk X25 some) 25 [(0, aR 150), (1, aI x1)] [] G (Rd_wordEnd_s25 x1 G) := by
  refine r_iload_n 26 1 dX8_wordEnd_25 rfl rfl rfl ?_
  refine r_aload_n 27 0 dX8_wordEnd_26 rfl rfl rfl ?_
  refine r_get 30 (aI (G 150 1)) dX8_wordEnd_27 fkX8_34 (fun _ => dsC_150 P W _) nn150 rfl rfl ?_
  refine r_icmp_ge 63 33 dX8_wordEnd_30 rfl rfl ?_ ?_
  · refine SS.ex ?_
    refine r_to [1] [(1, aI x1)] rfl ?_
    exact s_Rd_wordEnd_b63 P W x1 G
  · refine r_aload_n 34 0 dX8_wordEnd_33 rfl rfl rfl ?_
    refine r_get 37 (aR 151) dX8_wordEnd_34 fkX8_9 (fun _ => dsC_150 P W _) nn150 rfl rfl ?_
    refine r_iload_n 38 1 dX8_wordEnd_37 rfl rfl rfl ?_
    refine r_bald 39 dX8_wordEnd_38 (fun _ _ _ => dsC_151 P W _) (fun _ _ => nn151) rfl ?_
    refine r_callsI 42 (Mc := MRd_isLetter P W) (as := [aI (G 151 x1)]) (st := []) dX8_wordEnd_39 rfl (c_Rd_isLetter P W (G 151 x1) G) q982 (cmRd_isLetter P W) rfl rfl rfl (Nat.le_of_ble_eq_true rfl) (Nat.le_of_ble_eq_true rfl) (fun _ => rfl) rfl (fun z3 G4 => ?_)
    refine r_if_ne 57 45 dX8_wordEnd_42 rfl rfl ?_ ?_
    · exact s_Rd_wordEnd_b57 P W X25 hX25 x1 G4
    · refine r_aload_n 46 0 dX8_wordEnd_45 rfl rfl rfl ?_
      refine r_get 49 (aR 151) dX8_wordEnd_46 fkX8_9 (fun _ => dsC_150 P W _) nn150 rfl rfl ?_
      refine r_iload_n 50 1 dX8_wordEnd_49 rfl rfl rfl ?_
      refine r_bald 51 dX8_wordEnd_50 (fun _ _ _ => dsC_151 P W _) (fun _ _ => nn151) rfl ?_
      refine r_callsI 54 (Mc := MRd_isDigit P W) (as := [aI (G4 151 x1)]) (st := []) dX8_wordEnd_51 rfl (c_Rd_isDigit P W (G4 151 x1) G4) q985 (cmRd_isDigit P W) rfl rfl rfl (Nat.le_of_ble_eq_true rfl) (Nat.le_of_ble_eq_true rfl) (fun _ => rfl) rfl (fun z5 G6 => ?_)
      refine r_if_eq 63 57 dX8_wordEnd_54 rfl rfl ?_ ?_
      · refine SS.ex ?_
        refine r_to [1] [(1, aI x1)] rfl ?_
        exact s_Rd_wordEnd_b63 P W x1 G6
      · exact s_Rd_wordEnd_b57 P W X25 hX25 x1 G6
theorem sl_Rd_wordEnd_25 (P W : Int) (x1 : Int) (G : St) : SS (MRd_wordEnd P W) some 25 [(0, aR 150), (1, aI x1)] [] G (Rd_wordEnd_l25 x1 G) := by
  exact SS.loop (σ := Int × St) (fun s => [(0, aR 150), (1, aI (s.1))]) (fun s => s.2) (fun s => Rd_wordEnd_s25 s.1 s.2) (fun X25 hX25 s => s_Rd_wordEnd_s25 P W   X25 hX25 s.1 s.2) (x1, G)
theorem s_Rd_wordEnd (P W : Int) (G : St) : SS (MRd_wordEnd P W) some 0 [(0, aR 150)] [] G (Rd_wordEnd G) := by
  refine r_aload_n 1 0 dX8_wordEnd_0 rfl rfl rfl ?_
  refine r_get 4 (aI (G 150 2)) dX8_wordEnd_1 fkX8_31 (fun _ => dsC_150 P W _) nn150 rfl rfl ?_
  refine r_istore_n 5 [(1, aI (G 150 2)), (0, aR 150)] dX8_wordEnd_4 rfl rfl rfl rfl ?_
  refine r_iload_n 6 0 dX8_wordEnd_5 rfl rfl rfl ?_
  refine r_aload_n 7 1 dX8_wordEnd_6 rfl rfl rfl ?_
  refine r_get 10 (aI (G 150 1)) dX8_wordEnd_7 fkX8_34 (fun _ => dsC_150 P W _) nn150 rfl rfl ?_
  refine r_icmp_ge 63 13 dX8_wordEnd_10 rfl rfl ?_ ?_
  · refine r_to [0] [(1, aI (G 150 2))] rfl ?_
    exact s_Rd_wordEnd_b63 P W (G 150 2) G
  · refine r_aload_n 14 1 dX8_wordEnd_13 rfl rfl rfl ?_
    refine r_get 17 (aR 151) dX8_wordEnd_14 fkX8_9 (fun _ => dsC_150 P W _) nn150 rfl rfl ?_
    refine r_iload_n 18 0 dX8_wordEnd_17 rfl rfl rfl ?_
    refine r_bald 19 dX8_wordEnd_18 (fun _ _ _ => dsC_151 P W _) (fun _ _ => nn151) rfl ?_
    refine r_callsI 22 (Mc := MRd_isLetter P W) (as := [aI (G 151 (G 150 2))]) (st := []) dX8_wordEnd_19 rfl (c_Rd_isLetter P W (G 151 (G 150 2)) G) q982 (cmRd_isLetter P W) rfl rfl rfl (Nat.le_of_ble_eq_true rfl) (Nat.le_of_ble_eq_true rfl) (fun _ => rfl) rfl (fun z1 G2 => ?_)
    refine r_if_eq 63 25 dX8_wordEnd_22 rfl rfl ?_ ?_
    · refine r_to [0] [(1, aI (G 150 2))] rfl ?_
      exact s_Rd_wordEnd_b63 P W (G 150 2) G2
    · refine r_to [1, 0] [(0, aR 150), (1, aI (G 150 2))] rfl ?_
      exact sl_Rd_wordEnd_25 P W (G 150 2) G2
theorem c_Rd_wordEnd (P W : Int) (G : St) : MG (MRd_wordEnd P W) [aR 150] G (Rd_wordEnd G) := MG.of plX8 (Nat.le_of_ble_eq_true rfl) (s_Rd_wordEnd P W G)
theorem s_Rd_isWord_s22 (P W : Int) (x1 : Int) (x2 : Int) (X22 : Int × St → Option (Int × St)) (hX22 : ∀ s, So (MRd_isWord P W) 22 [(0, aR 150), (1, aR x1), (2, aI x2), (3, aI (s.1))] [] s.2 (X22 s)) (x3 : Int) (G : St) : SS (MRd_isWord P W) (lk X22 some) 22 [(0, aR 150), (1, aR x1), (2, aI x2), (3, aI x3)] [] G (Rd_isWord_s22 x1 x2 x3 G) := by
  refine r_iload_n 23 3 dX8_isWord_22 rfl rfl rfl ?_
  refine r_iload_n 24 2 dX8_isWord_23 rfl rfl rfl ?_
  refine r_icmp_ge 54 27 dX8_isWord_24 rfl rfl ?_ ?_
  · refine SS.ex ?_
    refine r_iconst 55 1 dX8_isWord_54 rfl rfl ?_
    exact r_zreturn dX8_isWord_55 rfl
  · refine r_aload_n 28 0 dX8_isWord_27 rfl rfl rfl ?_
    refine r_get 31 (aR 151) dX8_isWord_28 fkX8_9 (fun _ => dsC_150 P W _) nn150 rfl rfl ?_
    refine r_aload_n 32 0 dX8_isWord_31 rfl rfl rfl ?_
    refine r_get 35 (aI (G 150 2)) dX8_isWord_32 fkX8_31 (fun _ => dsC_150 P W _) nn150 rfl rfl ?_
    refine r_iload_n 36 3 dX8_isWord_35 rfl rfl rfl ?_
    refine r_iadd 37 dX8_isWord_36 rfl ?_
    refine r_bald 38 dX8_isWord_37 (fun _ _ _ => dsC_151 P W _) (fun _ _ => nn151) rfl ?_
    refine r_aload_n 39 1 dX8_isWord_38 rfl rfl rfl ?_
    refine r_iload_n 40 3 dX8_isWord_39 rfl rfl rfl ?_
    refine r_S_chr 43 (st := [aI (G 151 ((G 150 2) + x3))]) dX8_isWord_40 q988 rfl (Nat.le_of_ble_eq_true rfl) (Nat.le_of_ble_eq_true rfl) rfl (fun z5 G6 => ?_)
    refine r_icmp_eq 48 46 dX8_isWord_43 rfl rfl ?_ ?_
    · refine r_iinc 51 [(3, aI (x3 + 1)), (0, aR 150), (1, aR x1), (2, aI x2)] 3 dX8_isWord_48 rfl rfl rfl rfl ?_
      refine r_goto 22 dX8_isWord_51 rfl ?_
      refine r_to [1, 2, 3, 0] [(0, aR 150), (1, aR x1), (2, aI x2), (3, aI (x3 + 1))] rfl ?_
      exact SS.back (hX22 (x3 + 1, G6))
    · refine SS.ex ?_
      refine r_iconst 47 0 dX8_isWord_46 rfl rfl ?_
      exact r_zreturn dX8_isWord_47 rfl
theorem sl_Rd_isWord_22 (P W : Int) (x1 : Int) (x2 : Int) (x3 : Int) (G : St) : SS (MRd_isWord P W) some 22 [(0, aR 150), (1, aR x1), (2, aI x2), (3, aI x3)] [] G (Rd_isWord_l22 x1 x2 x3 G) := by
  exact SS.loop (σ := Int × St) (fun s => [(0, aR 150), (1, aR x1), (2, aI x2), (3, aI (s.1))]) (fun s => s.2) (fun s => Rd_isWord_s22 x1 x2 s.1 s.2) (fun X22 hX22 s => s_Rd_isWord_s22 P W x1 x2  X22 hX22 s.1 s.2) (x3, G)
theorem s_Rd_isWord (P W : Int) (x1 : Int) (G : St) : SS (MRd_isWord P W) some 0 [(0, aR 150), (1, aR x1)] [] G (Rd_isWord x1 G) := by
  refine r_aload_n 1 1 dX8_isWord_0 rfl rfl rfl ?_
  refine r_S_len 4 (st := []) dX8_isWord_1 q968 rfl (Nat.le_of_ble_eq_true rfl) (Nat.le_of_ble_eq_true rfl) rfl (fun z1 G2 => ?_)
  refine r_istore_n 5 [(2, aI z1), (0, aR 150), (1, aR x1)] dX8_isWord_4 rfl rfl rfl rfl ?_
  refine r_aload_n 6 1 dX8_isWord_5 rfl rfl rfl ?_
  refine r_callvI 9 (Mc := MRd_wordEnd P W) (o := 150) (as := []) (st := []) dX8_isWord_6 rfl (c_Rd_wordEnd P W G2) lkX8_56 (cmRd_wordEnd P W) rfl rfl rfl (fun _ => dsC_150 P W _) nn150 rfl (Nat.le_of_ble_eq_true rfl) (Nat.le_of_ble_eq_true rfl) (fun _ => rfl) rfl (fun z3 G4 => ?_)
  refine r_aload_n 10 1 dX8_isWord_9 rfl rfl rfl ?_
  refine r_get 13 (aI (G4 150 2)) dX8_isWord_10 fkX8_31 (fun _ => dsC_150 P W _) nn150 rfl rfl ?_
  refine r_isub 14 dX8_isWord_13 rfl ?_
  refine r_iload_n 15 0 dX8_isWord_14 rfl rfl rfl ?_
  refine r_icmp_eq 20 18 dX8_isWord_15 rfl rfl ?_ ?_
  · refine r_iconst 21 0 dX8_isWord_20 rfl rfl ?_
    refine r_istore_n 22 [(3, aI 0), (2, aI z1), (0, aR 150), (1, aR x1)] dX8_isWord_21 rfl rfl rfl rfl ?_
    refine r_to [2, 3, 1, 0] [(0, aR 150), (1, aR x1), (2, aI z1), (3, aI 0)] rfl ?_
    exact sl_Rd_isWord_22 P W x1 z1 0 G4
  · refine r_iconst 19 0 dX8_isWord_18 rfl rfl ?_
    exact r_zreturn dX8_isWord_19 rfl
theorem c_Rd_isWord (P W : Int) (x1 : Int) (G : St) : MG (MRd_isWord P W) [aR 150, aR x1] G (Rd_isWord x1 G) := MG.of plX8 (Nat.le_of_ble_eq_true rfl) (s_Rd_isWord P W x1 G)
theorem s_Rd_number_b130 (P W : Int) (x5 : Int) (x7 : Int) (G : St) : SS (MRd_number P W) some 130 [(0, aR 150), (5, aL x5), (7, aI x7)] [] G (Rd_number_b130 x5 x7 G) := by
  refine r_aload_n 131 0 dX8_number_130 rfl rfl rfl ?_
  refine r_dup 132 dX8_number_131 rfl rfl ?_
  refine r_get 135 (aI (G 150 2)) dX8_number_132 fkX8_31 (fun _ => dsC_150 P W _) nn150 rfl rfl ?_
  refine r_iload 137 2 dX8_number_135 rfl rfl ?_
  refine r_iadd 138 dX8_number_137 rfl ?_
  refine r_putI 141 dX8_number_138 fkX8_31 (fun _ => dsC_150 P W _) nn150 rfl rfl ?_
  refine ss_tk (fun G16 => ?_)
  refine r_lload 143 1 dX8_number_141 rfl rfl ?_
  refine r_l2iw 144 dX8_number_143 rfl ?_
  exact r_ireturn dX8_number_144 rfl
theorem s_Rd_number_b118 (P W : Int) (x5 : Int) (x7 : Int) (G : St) : SS (MRd_number P W) some 118 [(0, aR 150), (5, aL x5), (7, aI x7)] [] G (Rd_number_b118 x5 x7 G) := by
  refine r_aload_n 119 0 dX8_number_118 rfl rfl rfl ?_
  refine r_get 122 (aR 130) dX8_number_119 fkX8_27 (fun _ => dsC_150 P W _) nn150 rfl rfl ?_
  refine r_iconst 123 2 dX8_number_122 rfl rfl ?_
  refine r_aload_n 124 0 dX8_number_123 rfl rfl rfl ?_
  refine r_get 127 (aI (G 150 2)) dX8_number_124 fkX8_31 (fun _ => dsC_150 P W _) nn150 rfl rfl ?_
  refine r_callvV 130 (Mc := MFt_set P W) (o := 130) (as := [aI 2, aI (G 150 2)]) (st := []) dX8_number_127 rfl (c_Ft_set P W 2 (G 150 2) G) lkX8_37 (cmFt_set P W) rfl rfl rfl (fun _ => dsC_130 P W _) nn130 rfl (Nat.le_of_ble_eq_true rfl) (Nat.le_of_ble_eq_true rfl) (fun _ => rfl) rfl (fun z14 G15 => ?_)
  exact s_Rd_number_b130 P W x5 x7 G15
theorem s_Rd_number_b89 (P W : Int) (x1 : Int) (x3 : Int) (X47 : Int × Int × St → Option (Int × St)) (hX47 : ∀ s, So (MRd_number P W) 47 [(0, aR 150), (1, aL x1), (3, aL x3), (5, aL (s.1)), (7, aI (s.2.1))] [] s.2.2 (X47 s)) (x7 : Int) (s0 : Int) (G : St) : SS (MRd_number P W) (lk X47 some) 89 [(0, aR 150), (1, aL x1), (3, aL x3), (7, aI x7)] [aL s0] G (Rd_number_b89 x1 x3 x7 s0 G) := by
  refine r_lstore 91 [(5, aL s0), (0, aR 150), (1, aL x1), (3, aL x3), (7, aI x7)] dX8_number_89 rfl rfl rfl ?_
  refine r_iinc 94 [(7, aI (x7 + 1)), (5, aL s0), (0, aR 150), (1, aL x1), (3, aL x3)] 4 dX8_number_91 rfl rfl rfl rfl ?_
  refine r_goto 47 dX8_number_94 rfl ?_
  refine r_to [2, 3, 4, 1, 0] [(0, aR 150), (1, aL x1), (3, aL x3), (5, aL s0), (7, aI (x7 + 1))] rfl ?_
  exact SS.back (hX47 (s0, x7 + 1, G))
theorem s_Rd_number_s47 (P W : Int) (x1 : Int) (x3 : Int) (X47 : Int × Int × St → Option (Int × St)) (hX47 : ∀ s, So (MRd_number P W) 47 [(0, aR 150), (1, aL x1), (3, aL x3), (5, aL (s.1)), (7, aI (s.2.1))] [] s.2.2 (X47 s)) (x5 : Int) (x7 : Int) (G : St) : SS (MRd_number P W) (lk X47 some) 47 [(0, aR 150), (1, aL x1), (3, aL x3), (5, aL x5), (7, aI x7)] [] G (Rd_number_s47 x1 x3 x5 x7 G) := by
  refine r_aload_n 48 0 dX8_number_47 rfl rfl rfl ?_
  refine r_iload 50 4 dX8_number_48 rfl rfl ?_
  refine r_callvI 53 (Mc := MRd_look P W) (o := 150) (as := [aI x7]) (st := []) dX8_number_50 rfl (c_Rd_look P W x7 G) lkX8_103 (cmRd_look P W) rfl rfl rfl (fun _ => dsC_150 P W _) nn150 rfl (Nat.le_of_ble_eq_true rfl) (Nat.le_of_ble_eq_true rfl) (fun _ => rfl) rfl (fun z10 G11 => ?_)
  refine r_callsI 56 (Mc := MRd_isDigit P W) (as := [aI z10]) (st := []) dX8_number_53 rfl (c_Rd_isDigit P W z10 G11) q985 (cmRd_isDigit P W) rfl rfl rfl (Nat.le_of_ble_eq_true rfl) (Nat.le_of_ble_eq_true rfl) (fun _ => rfl) rfl (fun z12 G13 => ?_)
  refine r_if_eq 97 59 dX8_number_56 rfl rfl ?_ ?_
  · refine SS.ex ?_
    refine r_iload 99 4 dX8_number_97 rfl rfl ?_
    refine r_bipush 101 10 dX8_number_99 rfl rfl ?_
    refine r_icmp_gt 118 104 dX8_number_101 rfl rfl ?_ ?_
    · refine r_to [0, 3, 4] [(0, aR 150), (5, aL x5), (7, aI x7)] rfl ?_
      exact s_Rd_number_b118 P W x5 x7 G13
    · refine r_lload 106 3 dX8_number_104 rfl rfl ?_
      refine r_lload_n 107 1 dX8_number_106 rfl rfl rfl ?_
      refine r_lif_lt 108 118 111 dX8_number_107 rfl dX8_number_108 rfl rfl ?_ ?_
      · refine r_to [0, 3, 4] [(0, aR 150), (5, aL x5), (7, aI x7)] rfl ?_
        exact s_Rd_number_b118 P W x5 x7 G13
      · refine r_lload 113 3 dX8_number_111 rfl rfl ?_
        refine r_lload_n 114 2 dX8_number_113 rfl rfl rfl ?_
        refine r_lif_le 115 130 118 dX8_number_114 rfl dX8_number_115 rfl rfl ?_ ?_
        · refine r_to [0, 3, 4] [(0, aR 150), (5, aL x5), (7, aI x7)] rfl ?_
          exact s_Rd_number_b130 P W x5 x7 G13
        · refine r_to [0, 3, 4] [(0, aR 150), (5, aL x5), (7, aI x7)] rfl ?_
          exact s_Rd_number_b118 P W x5 x7 G13
  · refine r_iload 61 4 dX8_number_59 rfl rfl ?_
    refine r_bipush 63 10 dX8_number_61 rfl rfl ?_
    refine r_icmp_ge 87 66 dX8_number_63 rfl rfl ?_ ?_
    · refine r_lload 89 3 dX8_number_87 rfl rfl ?_
      refine r_to [0, 1, 2, 4] [(0, aR 150), (1, aL x1), (3, aL x3), (7, aI x7)] rfl ?_
      exact s_Rd_number_b89 P W x1 x3 X47 hX47 x7 x5 G13
    · refine r_ldc2 69 10 dX8_number_66 q1079 (by decide) rfl rfl ?_
      refine r_lload 71 3 dX8_number_69 rfl rfl ?_
      refine r_lmul 72 dX8_number_71 rfl ?_
      refine r_aload_n 73 0 dX8_number_72 rfl rfl rfl ?_
      refine r_iload 75 4 dX8_number_73 rfl rfl ?_
      refine r_callvI 78 (Mc := MRd_look P W) (o := 150) (as := [aI x7]) (st := [aL (10 * x5)]) dX8_number_75 rfl (c_Rd_look P W x7 G13) lkX8_103 (cmRd_look P W) rfl rfl rfl (fun _ => dsC_150 P W _) nn150 rfl (Nat.le_of_ble_eq_true rfl) (Nat.le_of_ble_eq_true rfl) (fun _ => rfl) rfl (fun z17 G18 => ?_)
      refine r_i2l 79 dX8_number_78 rfl ?_
      refine r_ladd 80 dX8_number_79 rfl ?_
      refine r_ldc2 83 48 dX8_number_80 q1080 (by decide) rfl rfl ?_
      refine r_lsub 84 dX8_number_83 rfl ?_
      refine r_goto 89 dX8_number_84 rfl ?_
      refine r_to [0, 1, 2, 4] [(0, aR 150), (1, aL x1), (3, aL x3), (7, aI x7)] rfl ?_
      exact s_Rd_number_b89 P W x1 x3 X47 hX47 x7 (((10 * x5) + z17) - 48) G18
theorem sl_Rd_number_47 (P W : Int) (x1 : Int) (x3 : Int) (x5 : Int) (x7 : Int) (G : St) : SS (MRd_number P W) some 47 [(0, aR 150), (1, aL x1), (3, aL x3), (5, aL x5), (7, aI x7)] [] G (Rd_number_l47 x1 x3 x5 x7 G) := by
  exact SS.loop (σ := Int × Int × St) (fun s => [(0, aR 150), (1, aL x1), (3, aL x3), (5, aL (s.1)), (7, aI (s.2.1))]) (fun s => s.2.2) (fun s => Rd_number_s47 x1 x3 s.1 s.2.1 s.2.2) (fun X47 hX47 s => s_Rd_number_s47 P W x1 x3  X47 hX47 s.1 s.2.1 s.2.2) (x5, x7, G)
theorem s_Rd_number (P W : Int) (x1 : Int) (x3 : Int) (G : St) : SS (MRd_number P W) some 0 [(0, aR 150), (1, aL x1), (3, aL x3)] [] G (Rd_number x1 x3 G) := by
  refine r_aload_n 1 0 dX8_number_0 rfl rfl rfl ?_
  refine r_callvV 4 (Mc := MRd_skip P W) (o := 150) (as := []) (st := []) dX8_number_1 rfl (c_Rd_skip P W G) lkX8_93 (cmRd_skip P W) rfl rfl rfl (fun _ => dsC_150 P W _) nn150 rfl (Nat.le_of_ble_eq_true rfl) (Nat.le_of_ble_eq_true rfl) (fun _ => rfl) rfl (fun z1 G2 => ?_)
  refine r_aload_n 5 0 dX8_number_4 rfl rfl rfl ?_
  refine r_get 8 (aR 130) dX8_number_5 fkX8_27 (fun _ => dsC_150 P W _) nn150 rfl rfl ?_
  refine r_callvI 11 (Mc := MFt_is P W) (o := 130) (as := []) (st := []) dX8_number_8 rfl (c_Ft_is P W G2) lkX8_96 (cmFt_is P W) rfl rfl rfl (fun _ => dsC_130 P W _) nn130 rfl (Nat.le_of_ble_eq_true rfl) (Nat.le_of_ble_eq_true rfl) (fun _ => rfl) rfl (fun z3 G4 => ?_)
  refine r_if_eq 16 14 dX8_number_11 rfl rfl ?_ ?_
  · refine r_aload_n 17 0 dX8_number_16 rfl rfl rfl ?_
    refine r_aload_n 18 0 dX8_number_17 rfl rfl rfl ?_
    refine r_get 21 (aI (G4 150 2)) dX8_number_18 fkX8_31 (fun _ => dsC_150 P W _) nn150 rfl rfl ?_
    refine r_putI 24 dX8_number_21 fkX8_114 (fun _ => dsC_150 P W _) nn150 rfl rfl ?_
    refine ss_tk (fun G5 => ?_)
    refine r_aload_n 25 0 dX8_number_24 rfl rfl rfl ?_
    refine r_iconst 26 0 dX8_number_25 rfl rfl ?_
    refine r_callvI 29 (Mc := MRd_look P W) (o := 150) (as := [aI 0]) (st := []) dX8_number_26 rfl (c_Rd_look P W 0 G5) lkX8_103 (cmRd_look P W) rfl rfl rfl (fun _ => dsC_150 P W _) nn150 rfl (Nat.le_of_ble_eq_true rfl) (Nat.le_of_ble_eq_true rfl) (fun _ => rfl) rfl (fun z6 G7 => ?_)
    refine r_callsI 32 (Mc := MRd_isDigit P W) (as := [aI z6]) (st := []) dX8_number_29 rfl (c_Rd_isDigit P W z6 G7) q985 (cmRd_isDigit P W) rfl rfl rfl (Nat.le_of_ble_eq_true rfl) (Nat.le_of_ble_eq_true rfl) (fun _ => rfl) rfl (fun z8 G9 => ?_)
    refine r_if_ne 41 35 dX8_number_32 rfl rfl ?_ ?_
    · refine r_lconst 42 0 dX8_number_41 rfl rfl rfl ?_
      refine r_lstore 44 [(5, aL 0), (0, aR 150), (1, aL x1), (3, aL x3)] dX8_number_42 rfl rfl rfl ?_
      refine r_iconst 45 0 dX8_number_44 rfl rfl ?_
      refine r_istore 47 [(7, aI 0), (5, aL 0), (0, aR 150), (1, aL x1), (3, aL x3)] dX8_number_45 rfl rfl rfl ?_
      refine r_to [2, 3, 4, 1, 0] [(0, aR 150), (1, aL x1), (3, aL x3), (5, aL 0), (7, aI 0)] rfl ?_
      exact sl_Rd_number_47 P W x1 x3 0 0 G9
    · refine r_aload_n 36 0 dX8_number_35 rfl rfl rfl ?_
      refine r_callvV 39 (Mc := MRd_bad P W) (o := 150) (as := []) (st := []) dX8_number_36 rfl (c_Rd_bad P W G9) lkX8_100 (cmRd_bad P W) rfl rfl rfl (fun _ => dsC_150 P W _) nn150 rfl (Nat.le_of_ble_eq_true rfl) (Nat.le_of_ble_eq_true rfl) (fun _ => rfl) rfl (fun z19 G20 => ?_)
      refine r_iconst 40 0 dX8_number_39 rfl rfl ?_
      exact r_ireturn dX8_number_40 rfl
  · refine r_iconst 15 0 dX8_number_14 rfl rfl ?_
    exact r_ireturn dX8_number_15 rfl
theorem c_Rd_number (P W : Int) (x1 : Int) (x3 : Int) (G : St) : MG (MRd_number P W) [aR 150, aL x1, aL x3] G (Rd_number x1 x3 G) := MG.of plX8 (Nat.le_of_ble_eq_true rfl) (s_Rd_number P W x1 x3 G)
theorem s_Nm_is_s16 (P W : Int) (x1 : Int) (x3 : Int) (x4 : Int) (X16 : Int × St → Option (Int × St)) (hX16 : ∀ s, So (MNm_is P W) 16 [(0, aR 120), (1, aI x1), (2, aR 151), (3, aI x3), (4, aI x4), (5, aI (s.1))] [] s.2 (X16 s)) (x5 : Int) (G : St) : SS (MNm_is P W) (lk X16 some) 16 [(0, aR 120), (1, aI x1), (2, aR 151), (3, aI x3), (4, aI x4), (5, aI x5)] [] G (Nm_is_s16 x1 x3 x4 x5 G) := by
  refine r_iload 18 5 dX3_is_16 rfl rfl ?_
  refine r_iload 20 4 dX3_is_18 rfl rfl ?_
  refine r_icmp_ge 54 23 dX3_is_20 rfl rfl ?_ ?_
  · refine SS.ex ?_
    refine r_iconst 55 1 dX3_is_54 rfl rfl ?_
    exact r_zreturn dX3_is_55 rfl
  · refine r_aload_n 24 0 dX3_is_23 rfl rfl rfl ?_
    refine r_get 27 (aR 121) dX3_is_24 fkX3_9 (fun _ => dsC_120 P W _) nn120 rfl rfl ?_
    refine r_aload_n 28 0 dX3_is_27 rfl rfl rfl ?_
    refine r_get 31 (aR 122) dX3_is_28 fkX3_15 (fun _ => dsC_120 P W _) nn120 rfl rfl ?_
    refine r_iload_n 32 1 dX3_is_31 rfl rfl rfl ?_
    refine r_iald 33 dX3_is_32 (fun _ _ _ => dsC_122 P W _) (fun _ _ => nn122) rfl ?_
    refine r_iload 35 5 dX3_is_33 rfl rfl ?_
    refine r_iadd 36 dX3_is_35 rfl ?_
    refine r_bald 37 dX3_is_36 (fun _ _ _ => dsC_121 P W _) (fun _ _ => nn121) rfl ?_
    refine r_aload_n 38 2 dX3_is_37 rfl rfl rfl ?_
    refine r_iload_n 39 3 dX3_is_38 rfl rfl rfl ?_
    refine r_iload 41 5 dX3_is_39 rfl rfl ?_
    refine r_iadd 42 dX3_is_41 rfl ?_
    refine r_bald 43 dX3_is_42 (fun _ _ _ => dsC_151 P W _) (fun _ _ => nn151) rfl ?_
    refine r_icmp_eq 48 46 dX3_is_43 rfl rfl ?_ ?_
    · refine r_iinc 51 [(5, aI (x5 + 1)), (0, aR 120), (1, aI x1), (2, aR 151), (3, aI x3), (4, aI x4)] 5 dX3_is_48 rfl rfl rfl rfl ?_
      refine r_goto 16 dX3_is_51 rfl ?_
      refine r_to [1, 2, 3, 4, 5, 0] [(0, aR 120), (1, aI x1), (2, aR 151), (3, aI x3), (4, aI x4), (5, aI (x5 + 1))] rfl ?_
      exact SS.back (hX16 (x5 + 1, G))
    · refine SS.ex ?_
      refine r_iconst 47 0 dX3_is_46 rfl rfl ?_
      exact r_zreturn dX3_is_47 rfl
theorem sl_Nm_is_16 (P W : Int) (x1 : Int) (x3 : Int) (x4 : Int) (x5 : Int) (G : St) : SS (MNm_is P W) some 16 [(0, aR 120), (1, aI x1), (2, aR 151), (3, aI x3), (4, aI x4), (5, aI x5)] [] G (Nm_is_l16 x1 x3 x4 x5 G) := by
  exact SS.loop (σ := Int × St) (fun s => [(0, aR 120), (1, aI x1), (2, aR 151), (3, aI x3), (4, aI x4), (5, aI (s.1))]) (fun s => s.2) (fun s => Nm_is_s16 x1 x3 x4 s.1 s.2) (fun X16 hX16 s => s_Nm_is_s16 P W x1 x3 x4  X16 hX16 s.1 s.2) (x5, G)
theorem s_Nm_is (P W : Int) (x1 : Int) (x3 : Int) (x4 : Int) (G : St) : SS (MNm_is P W) some 0 [(0, aR 120), (1, aI x1), (2, aR 151), (3, aI x3), (4, aI x4)] [] G (Nm_is x1 x3 x4 G) := by
  refine r_aload_n 1 0 dX3_is_0 rfl rfl rfl ?_
  refine r_get 4 (aR 123) dX3_is_1 fkX3_19 (fun _ => dsC_120 P W _) nn120 rfl rfl ?_
  refine r_iload_n 5 1 dX3_is_4 rfl rfl rfl ?_
  refine r_iald 6 dX3_is_5 (fun _ _ _ => dsC_123 P W _) (fun _ _ => nn123) rfl ?_
  refine r_iload 8 4 dX3_is_6 rfl rfl ?_
  refine r_icmp_eq 13 11 dX3_is_8 rfl rfl ?_ ?_
  · refine r_iconst 14 0 dX3_is_13 rfl rfl ?_
    refine r_istore 16 [(5, aI 0), (0, aR 120), (1, aI x1), (2, aR 151), (3, aI x3), (4, aI x4)] dX3_is_14 rfl rfl rfl ?_
    refine r_to [1, 2, 3, 4, 5, 0] [(0, aR 120), (1, aI x1), (2, aR 151), (3, aI x3), (4, aI x4), (5, aI 0)] rfl ?_
    exact sl_Nm_is_16 P W x1 x3 x4 0 G
  · refine r_iconst 12 0 dX3_is_11 rfl rfl ?_
    exact r_zreturn dX3_is_12 rfl
theorem c_Nm_is (P W : Int) (x1 : Int) (x3 : Int) (x4 : Int) (G : St) : MG (MNm_is P W) [aR 120, aI x1, aR 151, aI x3, aI x4] G (Nm_is x1 x3 x4 G) := MG.of plX3 (Nat.le_of_ble_eq_true rfl) (s_Nm_is P W x1 x3 x4 G)
theorem s_Nm_number_s3 (P W : Int) (x2 : Int) (x3 : Int) (X3 : Int × St → Option (Int × St)) (hX3 : ∀ s, So (MNm_number P W) 3 [(0, aR 120), (1, aR 151), (2, aI x2), (3, aI x3), (4, aI (s.1))] [] s.2 (X3 s)) (x4 : Int) (G : St) : SS (MNm_number P W) (lk X3 some) 3 [(0, aR 120), (1, aR 151), (2, aI x2), (3, aI x3), (4, aI x4)] [] G (Nm_number_s3 x2 x3 x4 G) := by
  refine r_iload 5 4 dX3_number_3 rfl rfl ?_
  refine r_aload_n 6 0 dX3_number_5 rfl rfl rfl ?_
  refine r_get 9 (aI (G 120 3)) dX3_number_6 fkX3_22 (fun _ => dsC_120 P W _) nn120 rfl rfl ?_
  refine r_icmp_ge 33 12 dX3_number_9 rfl rfl ?_ ?_
  · refine SS.ex ?_
    refine r_aload_n 34 0 dX3_number_33 rfl rfl rfl ?_
    refine r_get 37 (aR 122) dX3_number_34 fkX3_15 (fun _ => dsC_120 P W _) nn120 rfl rfl ?_
    refine r_aload_n 38 0 dX3_number_37 rfl rfl rfl ?_
    refine r_get 41 (aI (G 120 3)) dX3_number_38 fkX3_22 (fun _ => dsC_120 P W _) nn120 rfl rfl ?_
    refine r_aload_n 42 0 dX3_number_41 rfl rfl rfl ?_
    refine r_get 45 (aI (G 120 4)) dX3_number_42 fkX3_26 (fun _ => dsC_120 P W _) nn120 rfl rfl ?_
    refine r_iast 46 dX3_number_45 (fun _ _ _ => dsC_122 P W _) (fun _ _ => nn122) rfl ?_
    refine ss_tk (fun G1 => ?_)
    refine r_aload_n 47 0 dX3_number_46 rfl rfl rfl ?_
    refine r_get 50 (aR 123) dX3_number_47 fkX3_19 (fun _ => dsC_120 P W _) nn120 rfl rfl ?_
    refine r_aload_n 51 0 dX3_number_50 rfl rfl rfl ?_
    refine r_get 54 (aI (G1 120 3)) dX3_number_51 fkX3_22 (fun _ => dsC_120 P W _) nn120 rfl rfl ?_
    refine r_iload_n 55 3 dX3_number_54 rfl rfl rfl ?_
    refine r_iast 56 dX3_number_55 (fun _ _ _ => dsC_123 P W _) (fun _ _ => nn123) rfl ?_
    refine ss_tk (fun G2 => ?_)
    refine r_aload_n 57 1 dX3_number_56 rfl rfl rfl ?_
    refine r_iload_n 58 2 dX3_number_57 rfl rfl rfl ?_
    refine r_aload_n 59 0 dX3_number_58 rfl rfl rfl ?_
    refine r_get 62 (aR 121) dX3_number_59 fkX3_9 (fun _ => dsC_120 P W _) nn120 rfl rfl ?_
    refine r_aload_n 63 0 dX3_number_62 rfl rfl rfl ?_
    refine r_get 66 (aI (G2 120 4)) dX3_number_63 fkX3_26 (fun _ => dsC_120 P W _) nn120 rfl rfl ?_
    refine r_iload_n 67 3 dX3_number_66 rfl rfl rfl ?_
    refine r_acopy 70 1 dX3_number_67 q1066 (Or.inr rfl) (fun _ _ => dsC_151 P W _) (fun _ => nn151) (fun _ _ => dsC_121 P W _) (fun _ => nn121) (Nat.le_of_ble_eq_true rfl) (Nat.le_of_ble_eq_true rfl) rfl rfl ?_
    refine ss_tk (fun G3 => ?_)
    refine r_aload_n 71 0 dX3_number_70 rfl rfl rfl ?_
    refine r_dup 72 dX3_number_71 rfl rfl ?_
    refine r_get 75 (aI (G3 120 4)) dX3_number_72 fkX3_26 (fun _ => dsC_120 P W _) nn120 rfl rfl ?_
    refine r_iload_n 76 3 dX3_number_75 rfl rfl rfl ?_
    refine r_iadd 77 dX3_number_76 rfl ?_
    refine r_putI 80 dX3_number_77 fkX3_26 (fun _ => dsC_120 P W _) nn120 rfl rfl ?_
    refine ss_tk (fun G4 => ?_)
    refine r_aload_n 81 0 dX3_number_80 rfl rfl rfl ?_
    refine r_dup 82 dX3_number_81 rfl rfl ?_
    refine r_get 85 (aI (G4 120 3)) dX3_number_82 fkX3_22 (fun _ => dsC_120 P W _) nn120 rfl rfl ?_
    refine r_iconst 86 1 dX3_number_85 rfl rfl ?_
    refine r_iadd 87 dX3_number_86 rfl ?_
    refine r_putI 90 dX3_number_87 fkX3_22 (fun _ => dsC_120 P W _) nn120 rfl rfl ?_
    refine ss_tk (fun G5 => ?_)
    refine r_aload_n 91 0 dX3_number_90 rfl rfl rfl ?_
    refine r_get 94 (aI (G5 120 3)) dX3_number_91 fkX3_22 (fun _ => dsC_120 P W _) nn120 rfl rfl ?_
    refine r_iconst 95 1 dX3_number_94 rfl rfl ?_
    refine r_isub 96 dX3_number_95 rfl ?_
    exact r_ireturn dX3_number_96 rfl
  · refine r_aload_n 13 0 dX3_number_12 rfl rfl rfl ?_
    refine r_iload 15 4 dX3_number_13 rfl rfl ?_
    refine r_aload_n 16 1 dX3_number_15 rfl rfl rfl ?_
    refine r_iload_n 17 2 dX3_number_16 rfl rfl rfl ?_
    refine r_iload_n 18 3 dX3_number_17 rfl rfl rfl ?_
    refine r_callvI 21 (Mc := MNm_is P W) (o := 120) (as := [aI x4, aR 151, aI x2, aI x3]) (st := []) dX3_number_18 rfl (c_Nm_is P W x4 x2 x3 G) lkX3_29 (cmNm_is P W) rfl rfl rfl (fun _ => dsC_120 P W _) nn120 rfl (Nat.le_of_ble_eq_true rfl) (Nat.le_of_ble_eq_true rfl) (fun _ => rfl) rfl (fun z6 G7 => ?_)
    refine r_if_eq 27 24 dX3_number_21 rfl rfl ?_ ?_
    · refine r_iinc 30 [(4, aI (x4 + 1)), (0, aR 120), (1, aR 151), (2, aI x2), (3, aI x3)] 4 dX3_number_27 rfl rfl rfl rfl ?_
      refine r_goto 3 dX3_number_30 rfl ?_
      refine r_to [1, 2, 3, 4, 0] [(0, aR 120), (1, aR 151), (2, aI x2), (3, aI x3), (4, aI (x4 + 1))] rfl ?_
      exact SS.back (hX3 (x4 + 1, G7))
    · refine SS.ex ?_
      refine r_iload 26 4 dX3_number_24 rfl rfl ?_
      exact r_ireturn dX3_number_26 rfl
theorem sl_Nm_number_3 (P W : Int) (x2 : Int) (x3 : Int) (x4 : Int) (G : St) : SS (MNm_number P W) some 3 [(0, aR 120), (1, aR 151), (2, aI x2), (3, aI x3), (4, aI x4)] [] G (Nm_number_l3 x2 x3 x4 G) := by
  exact SS.loop (σ := Int × St) (fun s => [(0, aR 120), (1, aR 151), (2, aI x2), (3, aI x3), (4, aI (s.1))]) (fun s => s.2) (fun s => Nm_number_s3 x2 x3 s.1 s.2) (fun X3 hX3 s => s_Nm_number_s3 P W x2 x3  X3 hX3 s.1 s.2) (x4, G)
theorem s_Nm_number (P W : Int) (x2 : Int) (x3 : Int) (G : St) : SS (MNm_number P W) some 0 [(0, aR 120), (1, aR 151), (2, aI x2), (3, aI x3)] [] G (Nm_number x2 x3 G) := by
  refine r_iconst 1 0 dX3_number_0 rfl rfl ?_
  refine r_istore 3 [(4, aI 0), (0, aR 120), (1, aR 151), (2, aI x2), (3, aI x3)] dX3_number_1 rfl rfl rfl ?_
  refine r_to [1, 2, 3, 4, 0] [(0, aR 120), (1, aR 151), (2, aI x2), (3, aI x3), (4, aI 0)] rfl ?_
  exact sl_Nm_number_3 P W x2 x3 0 G
theorem c_Nm_number (P W : Int) (x2 : Int) (x3 : Int) (G : St) : MG (MNm_number P W) [aR 120, aR 151, aI x2, aI x3] G (Nm_number x2 x3 G) := MG.of plX3 (Nat.le_of_ble_eq_true rfl) (s_Nm_number P W x2 x3 G)
theorem s_Rd_isKeyword (P W : Int) (G : St) : SS (MRd_isKeyword P W) some 0 [(0, aR 150)] [] G (Rd_isKeyword G) := by
  refine r_aload_n 1 0 dX8_isKeyword_0 rfl rfl rfl ?_
  refine r_ldcs 3 0 dX8_isKeyword_1 q963 rfl rfl rfl ?_
  refine r_callvI 6 (Mc := MRd_isWord P W) (o := 150) (as := [aR 70]) (st := []) dX8_isKeyword_3 rfl (c_Rd_isWord P W 70 G) lkX8_65 (cmRd_isWord P W) rfl rfl rfl (fun _ => dsC_150 P W _) nn150 rfl (Nat.le_of_ble_eq_true rfl) (Nat.le_of_ble_eq_true rfl) (fun _ => rfl) rfl (fun z1 G2 => ?_)
  refine r_if_ne 117 9 dX8_isKeyword_6 rfl rfl ?_ ?_
  · refine r_iconst 118 1 dX8_isKeyword_117 rfl rfl ?_
    refine r_goto 122 dX8_isKeyword_118 rfl ?_
    exact r_zreturn dX8_isKeyword_122 rfl
  · refine r_aload_n 10 0 dX8_isKeyword_9 rfl rfl rfl ?_
    refine r_ldcs 12 1 dX8_isKeyword_10 q1038 rfl rfl rfl ?_
    refine r_callvI 15 (Mc := MRd_isWord P W) (o := 150) (as := [aR 71]) (st := []) dX8_isKeyword_12 rfl (c_Rd_isWord P W 71 G2) lkX8_65 (cmRd_isWord P W) rfl rfl rfl (fun _ => dsC_150 P W _) nn150 rfl (Nat.le_of_ble_eq_true rfl) (Nat.le_of_ble_eq_true rfl) (fun _ => rfl) rfl (fun z3 G4 => ?_)
    refine r_if_ne 117 18 dX8_isKeyword_15 rfl rfl ?_ ?_
    · refine r_iconst 118 1 dX8_isKeyword_117 rfl rfl ?_
      refine r_goto 122 dX8_isKeyword_118 rfl ?_
      exact r_zreturn dX8_isKeyword_122 rfl
    · refine r_aload_n 19 0 dX8_isKeyword_18 rfl rfl rfl ?_
      refine r_ldcs 21 2 dX8_isKeyword_19 q1039 rfl rfl rfl ?_
      refine r_callvI 24 (Mc := MRd_isWord P W) (o := 150) (as := [aR 72]) (st := []) dX8_isKeyword_21 rfl (c_Rd_isWord P W 72 G4) lkX8_65 (cmRd_isWord P W) rfl rfl rfl (fun _ => dsC_150 P W _) nn150 rfl (Nat.le_of_ble_eq_true rfl) (Nat.le_of_ble_eq_true rfl) (fun _ => rfl) rfl (fun z5 G6 => ?_)
      refine r_if_ne 117 27 dX8_isKeyword_24 rfl rfl ?_ ?_
      · refine r_iconst 118 1 dX8_isKeyword_117 rfl rfl ?_
        refine r_goto 122 dX8_isKeyword_118 rfl ?_
        exact r_zreturn dX8_isKeyword_122 rfl
      · refine r_aload_n 28 0 dX8_isKeyword_27 rfl rfl rfl ?_
        refine r_ldcs 30 3 dX8_isKeyword_28 q1040 rfl rfl rfl ?_
        refine r_callvI 33 (Mc := MRd_isWord P W) (o := 150) (as := [aR 73]) (st := []) dX8_isKeyword_30 rfl (c_Rd_isWord P W 73 G6) lkX8_65 (cmRd_isWord P W) rfl rfl rfl (fun _ => dsC_150 P W _) nn150 rfl (Nat.le_of_ble_eq_true rfl) (Nat.le_of_ble_eq_true rfl) (fun _ => rfl) rfl (fun z7 G8 => ?_)
        refine r_if_ne 117 36 dX8_isKeyword_33 rfl rfl ?_ ?_
        · refine r_iconst 118 1 dX8_isKeyword_117 rfl rfl ?_
          refine r_goto 122 dX8_isKeyword_118 rfl ?_
          exact r_zreturn dX8_isKeyword_122 rfl
        · refine r_aload_n 37 0 dX8_isKeyword_36 rfl rfl rfl ?_
          refine r_ldcs 39 4 dX8_isKeyword_37 q1041 rfl rfl rfl ?_
          refine r_callvI 42 (Mc := MRd_isWord P W) (o := 150) (as := [aR 74]) (st := []) dX8_isKeyword_39 rfl (c_Rd_isWord P W 74 G8) lkX8_65 (cmRd_isWord P W) rfl rfl rfl (fun _ => dsC_150 P W _) nn150 rfl (Nat.le_of_ble_eq_true rfl) (Nat.le_of_ble_eq_true rfl) (fun _ => rfl) rfl (fun z9 G10 => ?_)
          refine r_if_ne 117 45 dX8_isKeyword_42 rfl rfl ?_ ?_
          · refine r_iconst 118 1 dX8_isKeyword_117 rfl rfl ?_
            refine r_goto 122 dX8_isKeyword_118 rfl ?_
            exact r_zreturn dX8_isKeyword_122 rfl
          · refine r_aload_n 46 0 dX8_isKeyword_45 rfl rfl rfl ?_
            refine r_ldcs 48 5 dX8_isKeyword_46 q1042 rfl rfl rfl ?_
            refine r_callvI 51 (Mc := MRd_isWord P W) (o := 150) (as := [aR 75]) (st := []) dX8_isKeyword_48 rfl (c_Rd_isWord P W 75 G10) lkX8_65 (cmRd_isWord P W) rfl rfl rfl (fun _ => dsC_150 P W _) nn150 rfl (Nat.le_of_ble_eq_true rfl) (Nat.le_of_ble_eq_true rfl) (fun _ => rfl) rfl (fun z11 G12 => ?_)
            refine r_if_ne 117 54 dX8_isKeyword_51 rfl rfl ?_ ?_
            · refine r_iconst 118 1 dX8_isKeyword_117 rfl rfl ?_
              refine r_goto 122 dX8_isKeyword_118 rfl ?_
              exact r_zreturn dX8_isKeyword_122 rfl
            · refine r_aload_n 55 0 dX8_isKeyword_54 rfl rfl rfl ?_
              refine r_ldcs 57 6 dX8_isKeyword_55 q1043 rfl rfl rfl ?_
              refine r_callvI 60 (Mc := MRd_isWord P W) (o := 150) (as := [aR 76]) (st := []) dX8_isKeyword_57 rfl (c_Rd_isWord P W 76 G12) lkX8_65 (cmRd_isWord P W) rfl rfl rfl (fun _ => dsC_150 P W _) nn150 rfl (Nat.le_of_ble_eq_true rfl) (Nat.le_of_ble_eq_true rfl) (fun _ => rfl) rfl (fun z13 G14 => ?_)
              refine r_if_ne 117 63 dX8_isKeyword_60 rfl rfl ?_ ?_
              · refine r_iconst 118 1 dX8_isKeyword_117 rfl rfl ?_
                refine r_goto 122 dX8_isKeyword_118 rfl ?_
                exact r_zreturn dX8_isKeyword_122 rfl
              · refine r_aload_n 64 0 dX8_isKeyword_63 rfl rfl rfl ?_
                refine r_ldcs 66 7 dX8_isKeyword_64 q1044 rfl rfl rfl ?_
                refine r_callvI 69 (Mc := MRd_isWord P W) (o := 150) (as := [aR 77]) (st := []) dX8_isKeyword_66 rfl (c_Rd_isWord P W 77 G14) lkX8_65 (cmRd_isWord P W) rfl rfl rfl (fun _ => dsC_150 P W _) nn150 rfl (Nat.le_of_ble_eq_true rfl) (Nat.le_of_ble_eq_true rfl) (fun _ => rfl) rfl (fun z15 G16 => ?_)
                refine r_if_ne 117 72 dX8_isKeyword_69 rfl rfl ?_ ?_
                · refine r_iconst 118 1 dX8_isKeyword_117 rfl rfl ?_
                  refine r_goto 122 dX8_isKeyword_118 rfl ?_
                  exact r_zreturn dX8_isKeyword_122 rfl
                · refine r_aload_n 73 0 dX8_isKeyword_72 rfl rfl rfl ?_
                  refine r_ldcs 75 8 dX8_isKeyword_73 q1045 rfl rfl rfl ?_
                  refine r_callvI 78 (Mc := MRd_isWord P W) (o := 150) (as := [aR 78]) (st := []) dX8_isKeyword_75 rfl (c_Rd_isWord P W 78 G16) lkX8_65 (cmRd_isWord P W) rfl rfl rfl (fun _ => dsC_150 P W _) nn150 rfl (Nat.le_of_ble_eq_true rfl) (Nat.le_of_ble_eq_true rfl) (fun _ => rfl) rfl (fun z17 G18 => ?_)
                  refine r_if_ne 117 81 dX8_isKeyword_78 rfl rfl ?_ ?_
                  · refine r_iconst 118 1 dX8_isKeyword_117 rfl rfl ?_
                    refine r_goto 122 dX8_isKeyword_118 rfl ?_
                    exact r_zreturn dX8_isKeyword_122 rfl
                  · refine r_aload_n 82 0 dX8_isKeyword_81 rfl rfl rfl ?_
                    refine r_ldcs 84 9 dX8_isKeyword_82 q1046 rfl rfl rfl ?_
                    refine r_callvI 87 (Mc := MRd_isWord P W) (o := 150) (as := [aR 79]) (st := []) dX8_isKeyword_84 rfl (c_Rd_isWord P W 79 G18) lkX8_65 (cmRd_isWord P W) rfl rfl rfl (fun _ => dsC_150 P W _) nn150 rfl (Nat.le_of_ble_eq_true rfl) (Nat.le_of_ble_eq_true rfl) (fun _ => rfl) rfl (fun z19 G20 => ?_)
                    refine r_if_ne 117 90 dX8_isKeyword_87 rfl rfl ?_ ?_
                    · refine r_iconst 118 1 dX8_isKeyword_117 rfl rfl ?_
                      refine r_goto 122 dX8_isKeyword_118 rfl ?_
                      exact r_zreturn dX8_isKeyword_122 rfl
                    · refine r_aload_n 91 0 dX8_isKeyword_90 rfl rfl rfl ?_
                      refine r_ldcs 93 10 dX8_isKeyword_91 q1047 rfl rfl rfl ?_
                      refine r_callvI 96 (Mc := MRd_isWord P W) (o := 150) (as := [aR 80]) (st := []) dX8_isKeyword_93 rfl (c_Rd_isWord P W 80 G20) lkX8_65 (cmRd_isWord P W) rfl rfl rfl (fun _ => dsC_150 P W _) nn150 rfl (Nat.le_of_ble_eq_true rfl) (Nat.le_of_ble_eq_true rfl) (fun _ => rfl) rfl (fun z21 G22 => ?_)
                      refine r_if_ne 117 99 dX8_isKeyword_96 rfl rfl ?_ ?_
                      · refine r_iconst 118 1 dX8_isKeyword_117 rfl rfl ?_
                        refine r_goto 122 dX8_isKeyword_118 rfl ?_
                        exact r_zreturn dX8_isKeyword_122 rfl
                      · refine r_aload_n 100 0 dX8_isKeyword_99 rfl rfl rfl ?_
                        refine r_ldcs 102 11 dX8_isKeyword_100 q1048 rfl rfl rfl ?_
                        refine r_callvI 105 (Mc := MRd_isWord P W) (o := 150) (as := [aR 81]) (st := []) dX8_isKeyword_102 rfl (c_Rd_isWord P W 81 G22) lkX8_65 (cmRd_isWord P W) rfl rfl rfl (fun _ => dsC_150 P W _) nn150 rfl (Nat.le_of_ble_eq_true rfl) (Nat.le_of_ble_eq_true rfl) (fun _ => rfl) rfl (fun z23 G24 => ?_)
                        refine r_if_ne 117 108 dX8_isKeyword_105 rfl rfl ?_ ?_
                        · refine r_iconst 118 1 dX8_isKeyword_117 rfl rfl ?_
                          refine r_goto 122 dX8_isKeyword_118 rfl ?_
                          exact r_zreturn dX8_isKeyword_122 rfl
                        · refine r_aload_n 109 0 dX8_isKeyword_108 rfl rfl rfl ?_
                          refine r_ldcs 111 12 dX8_isKeyword_109 q1049 rfl rfl rfl ?_
                          refine r_callvI 114 (Mc := MRd_isWord P W) (o := 150) (as := [aR 82]) (st := []) dX8_isKeyword_111 rfl (c_Rd_isWord P W 82 G24) lkX8_65 (cmRd_isWord P W) rfl rfl rfl (fun _ => dsC_150 P W _) nn150 rfl (Nat.le_of_ble_eq_true rfl) (Nat.le_of_ble_eq_true rfl) (fun _ => rfl) rfl (fun z25 G26 => ?_)
                          refine SS.phi (fun VV_ => ckB VV_ 2 (some (VV_, G26))) ?_
                          refine r_if_eq 121 117 dX8_isKeyword_114 rfl rfl ?_ ?_
                          · refine r_iconst 122 0 dX8_isKeyword_121 rfl rfl ?_
                            exact r_zreturn dX8_isKeyword_122 rfl
                          · refine r_iconst 118 1 dX8_isKeyword_117 rfl rfl ?_
                            refine r_goto 122 dX8_isKeyword_118 rfl ?_
                            exact r_zreturn dX8_isKeyword_122 rfl
theorem c_Rd_isKeyword (P W : Int) (G : St) : MG (MRd_isKeyword P W) [aR 150] G (Rd_isKeyword G) := MG.of plX8 (Nat.le_of_ble_eq_true rfl) (s_Rd_isKeyword P W G)
theorem s_Rd_name_b74 (P W : Int) (x1 : Int) (G : St) : SS (MRd_name P W) some 74 [(0, aR 150), (1, aI x1)] [] G (Rd_name_b74 x1 G) := by
  refine r_aload_n 75 0 dX8_name_74 rfl rfl rfl ?_
  refine r_get 78 (aR 130) dX8_name_75 fkX8_27 (fun _ => dsC_150 P W _) nn150 rfl rfl ?_
  refine r_callvI 81 (Mc := MFt_is P W) (o := 130) (as := []) (st := []) dX8_name_78 rfl (c_Ft_is P W G) lkX8_96 (cmFt_is P W) rfl rfl rfl (fun _ => dsC_130 P W _) nn130 rfl (Nat.le_of_ble_eq_true rfl) (Nat.le_of_ble_eq_true rfl) (fun _ => rfl) rfl (fun z10 G11 => ?_)
  refine r_if_eq 86 84 dX8_name_81 rfl rfl ?_ ?_
  · refine r_aload_n 87 0 dX8_name_86 rfl rfl rfl ?_
    refine r_get 90 (aR 120) dX8_name_87 fkX8_23 (fun _ => dsC_150 P W _) nn150 rfl rfl ?_
    refine r_aload_n 91 0 dX8_name_90 rfl rfl rfl ?_
    refine r_get 94 (aR 151) dX8_name_91 fkX8_9 (fun _ => dsC_150 P W _) nn150 rfl rfl ?_
    refine r_aload_n 95 0 dX8_name_94 rfl rfl rfl ?_
    refine r_get 98 (aI (G11 150 2)) dX8_name_95 fkX8_31 (fun _ => dsC_150 P W _) nn150 rfl rfl ?_
    refine r_iload_n 99 1 dX8_name_98 rfl rfl rfl ?_
    refine r_aload_n 100 0 dX8_name_99 rfl rfl rfl ?_
    refine r_get 103 (aI (G11 150 2)) dX8_name_100 fkX8_31 (fun _ => dsC_150 P W _) nn150 rfl rfl ?_
    refine r_isub 104 dX8_name_103 rfl ?_
    refine r_callvI 107 (Mc := MNm_number P W) (o := 120) (as := [aR 151, aI (G11 150 2), aI (x1 - (G11 150 2))]) (st := []) dX8_name_104 rfl (c_Nm_number P W (G11 150 2) (x1 - (G11 150 2)) G11) lkX8_120 (cmNm_number P W) rfl rfl rfl (fun _ => dsC_120 P W _) nn120 rfl (Nat.le_of_ble_eq_true rfl) (Nat.le_of_ble_eq_true rfl) (fun _ => rfl) rfl (fun z12 G13 => ?_)
    refine r_istore_n 108 [(2, aI z12), (0, aR 150), (1, aI x1)] dX8_name_107 rfl rfl rfl rfl ?_
    refine r_aload_n 109 1 dX8_name_108 rfl rfl rfl ?_
    refine r_iload_n 110 2 dX8_name_109 rfl rfl rfl ?_
    refine r_putI 113 dX8_name_110 fkX8_31 (fun _ => dsC_150 P W _) nn150 rfl rfl ?_
    refine ss_tk (fun G14 => ?_)
    refine r_iload_n 114 0 dX8_name_113 rfl rfl rfl ?_
    exact r_ireturn dX8_name_114 rfl
  · refine r_iconst 85 0 dX8_name_84 rfl rfl ?_
    exact r_ireturn dX8_name_85 rfl
theorem s_Rd_name_b44 (P W : Int) (x1 : Int) (G : St) : SS (MRd_name P W) some 44 [(0, aR 150), (1, aI x1)] [] G (Rd_name_b44 x1 G) := by
  refine r_aload_n 45 0 dX8_name_44 rfl rfl rfl ?_
  refine r_callvV 48 (Mc := MRd_bad P W) (o := 150) (as := []) (st := []) dX8_name_45 rfl (c_Rd_bad P W G) lkX8_100 (cmRd_bad P W) rfl rfl rfl (fun _ => dsC_150 P W _) nn150 rfl (Nat.le_of_ble_eq_true rfl) (Nat.le_of_ble_eq_true rfl) (fun _ => rfl) rfl (fun z8 G9 => ?_)
  refine r_goto 74 dX8_name_48 rfl ?_
  exact s_Rd_name_b74 P W x1 G9
theorem s_Rd_name (P W : Int) (G : St) : SS (MRd_name P W) some 0 [(0, aR 150)] [] G (Rd_name G) := by
  refine r_aload_n 1 0 dX8_name_0 rfl rfl rfl ?_
  refine r_callvV 4 (Mc := MRd_skip P W) (o := 150) (as := []) (st := []) dX8_name_1 rfl (c_Rd_skip P W G) lkX8_93 (cmRd_skip P W) rfl rfl rfl (fun _ => dsC_150 P W _) nn150 rfl (Nat.le_of_ble_eq_true rfl) (Nat.le_of_ble_eq_true rfl) (fun _ => rfl) rfl (fun z1 G2 => ?_)
  refine r_aload_n 5 0 dX8_name_4 rfl rfl rfl ?_
  refine r_get 8 (aR 130) dX8_name_5 fkX8_27 (fun _ => dsC_150 P W _) nn150 rfl rfl ?_
  refine r_callvI 11 (Mc := MFt_is P W) (o := 130) (as := []) (st := []) dX8_name_8 rfl (c_Ft_is P W G2) lkX8_96 (cmFt_is P W) rfl rfl rfl (fun _ => dsC_130 P W _) nn130 rfl (Nat.le_of_ble_eq_true rfl) (Nat.le_of_ble_eq_true rfl) (fun _ => rfl) rfl (fun z3 G4 => ?_)
  refine r_if_eq 16 14 dX8_name_11 rfl rfl ?_ ?_
  · refine r_aload_n 17 0 dX8_name_16 rfl rfl rfl ?_
    refine r_callvI 20 (Mc := MRd_wordEnd P W) (o := 150) (as := []) (st := []) dX8_name_17 rfl (c_Rd_wordEnd P W G4) lkX8_56 (cmRd_wordEnd P W) rfl rfl rfl (fun _ => dsC_150 P W _) nn150 rfl (Nat.le_of_ble_eq_true rfl) (Nat.le_of_ble_eq_true rfl) (fun _ => rfl) rfl (fun z5 G6 => ?_)
    refine r_istore_n 21 [(1, aI z5), (0, aR 150)] dX8_name_20 rfl rfl rfl rfl ?_
    refine r_aload_n 22 1 dX8_name_21 rfl rfl rfl ?_
    refine r_aload_n 23 1 dX8_name_22 rfl rfl rfl ?_
    refine r_get 26 (aI (G6 150 2)) dX8_name_23 fkX8_31 (fun _ => dsC_150 P W _) nn150 rfl rfl ?_
    refine r_putI 29 dX8_name_26 fkX8_114 (fun _ => dsC_150 P W _) nn150 rfl rfl ?_
    refine ss_tk (fun G7 => ?_)
    refine r_iload_n 30 0 dX8_name_29 rfl rfl rfl ?_
    refine r_aload_n 31 1 dX8_name_30 rfl rfl rfl ?_
    refine r_get 34 (aI (G7 150 2)) dX8_name_31 fkX8_31 (fun _ => dsC_150 P W _) nn150 rfl rfl ?_
    refine r_icmp_eq 44 37 dX8_name_34 rfl rfl ?_ ?_
    · refine r_to [1, 0] [(0, aR 150), (1, aI z5)] rfl ?_
      exact s_Rd_name_b44 P W z5 G7
    · refine r_aload_n 38 1 dX8_name_37 rfl rfl rfl ?_
      refine r_callvI 41 (Mc := MRd_isKeyword P W) (o := 150) (as := []) (st := []) dX8_name_38 rfl (c_Rd_isKeyword P W G7) lkX8_117 (cmRd_isKeyword P W) rfl rfl rfl (fun _ => dsC_150 P W _) nn150 rfl (Nat.le_of_ble_eq_true rfl) (Nat.le_of_ble_eq_true rfl) (fun _ => rfl) rfl (fun z15 G16 => ?_)
      refine r_if_eq 51 44 dX8_name_41 rfl rfl ?_ ?_
      · refine r_iload_n 52 0 dX8_name_51 rfl rfl rfl ?_
        refine r_aload_n 53 1 dX8_name_52 rfl rfl rfl ?_
        refine r_get 56 (aI (G16 150 2)) dX8_name_53 fkX8_31 (fun _ => dsC_150 P W _) nn150 rfl rfl ?_
        refine r_isub 57 dX8_name_56 rfl ?_
        refine r_bipush 59 16 dX8_name_57 rfl rfl ?_
        refine r_icmp_le 74 62 dX8_name_59 rfl rfl ?_ ?_
        · refine r_to [1, 0] [(0, aR 150), (1, aI z5)] rfl ?_
          exact s_Rd_name_b74 P W z5 G16
        · refine r_aload_n 63 1 dX8_name_62 rfl rfl rfl ?_
          refine r_get 66 (aR 130) dX8_name_63 fkX8_27 (fun _ => dsC_150 P W _) nn150 rfl rfl ?_
          refine r_iconst 67 2 dX8_name_66 rfl rfl ?_
          refine r_aload_n 68 1 dX8_name_67 rfl rfl rfl ?_
          refine r_get 71 (aI (G16 150 2)) dX8_name_68 fkX8_31 (fun _ => dsC_150 P W _) nn150 rfl rfl ?_
          refine r_callvV 74 (Mc := MFt_set P W) (o := 130) (as := [aI 2, aI (G16 150 2)]) (st := []) dX8_name_71 rfl (c_Ft_set P W 2 (G16 150 2) G16) lkX8_37 (cmFt_set P W) rfl rfl rfl (fun _ => dsC_130 P W _) nn130 rfl (Nat.le_of_ble_eq_true rfl) (Nat.le_of_ble_eq_true rfl) (fun _ => rfl) rfl (fun z17 G18 => ?_)
          refine r_to [1, 0] [(0, aR 150), (1, aI z5)] rfl ?_
          exact s_Rd_name_b74 P W z5 G18
      · refine r_to [1, 0] [(0, aR 150), (1, aI z5)] rfl ?_
        exact s_Rd_name_b44 P W z5 G16
  · refine r_iconst 15 0 dX8_name_14 rfl rfl ?_
    exact r_ireturn dX8_name_15 rfl
theorem c_Rd_name (P W : Int) (G : St) : MG (MRd_name P W) [aR 150] G (Rd_name G) := MG.of plX8 (Nat.le_of_ble_eq_true rfl) (s_Rd_name P W G)
theorem s_Rd_expr (P W : Int) (d : Nat) (Rf : Nat → List Int → St → Option (Int × St)) (hRf : HRE P W d Rf) (G : St) : SS (MRd_expr P W (d + 1)) some 0 [(0, aR 150)] [] G (Rd_expr Rf G) := by
  refine r_aload_n 1 0 dX8_expr_0 rfl rfl rfl ?_
  refine r_get 4 (aR 130) dX8_expr_1 fkX8_27 (fun _ => dsC_150 P W _) nn150 rfl rfl ?_
  refine r_callvI 7 (Mc := MFt_is P W) (o := 130) (as := []) (st := []) dX8_expr_4 rfl (c_Ft_is P W G) lkX8_96 (cmFt_is P W) rfl rfl rfl (fun _ => dsC_130 P W _) nn130 rfl (by simp only [mF, mW, mN, DX, MRd_expr, MFt_is]; omega) (by simp only [mF, mW, mN, DX, MRd_expr, MFt_is]; omega) (fun _ => rfl) rfl (fun z1 G2 => ?_)
  refine r_if_eq 11 10 dX8_expr_7 rfl rfl ?_ ?_
  · refine r_aload_n 12 0 dX8_expr_11 rfl rfl rfl ?_
    refine r_iconst 13 0 dX8_expr_12 rfl rfl ?_
    refine r_callvV 16 (Mc := MRd_row P W d) (o := 150) (as := [aI 0]) (st := []) dX8_expr_13 rfl (hRf.2.1 0 G2) lkX8_299 (cmRd_row P W d) rfl rfl rfl (fun _ => dsC_150 P W _) nn150 rfl (by simp only [mF, mW, mN, DX, MRd_expr, MRd_row]; omega) (by simp only [mF, mW, mN, DX, MRd_expr, MRd_row]; omega) (fun _ => rfl) rfl (fun z3 G4 => ?_)
    refine r_aload_n 17 0 dX8_expr_16 rfl rfl rfl ?_
    refine r_get 20 (aR 130) dX8_expr_17 fkX8_27 (fun _ => dsC_150 P W _) nn150 rfl rfl ?_
    refine r_callvI 23 (Mc := MFt_is P W) (o := 130) (as := []) (st := []) dX8_expr_20 rfl (c_Ft_is P W G4) lkX8_96 (cmFt_is P W) rfl rfl rfl (fun _ => dsC_130 P W _) nn130 rfl (by simp only [mF, mW, mN, DX, MRd_expr, MFt_is]; omega) (by simp only [mF, mW, mN, DX, MRd_expr, MFt_is]; omega) (fun _ => rfl) rfl (fun z5 G6 => ?_)
    refine r_if_ne 35 26 dX8_expr_23 rfl rfl ?_ ?_
    · exact r_return dX8_expr_35 rfl
    · refine r_aload_n 27 0 dX8_expr_26 rfl rfl rfl ?_
      refine r_bipush 29 63 dX8_expr_27 rfl rfl ?_
      refine r_callvI 32 (Mc := MRd_isSign P W) (o := 150) (as := [aI 63]) (st := []) dX8_expr_29 rfl (c_Rd_isSign P W 63 G6) lkX8_107 (cmRd_isSign P W) rfl rfl rfl (fun _ => dsC_150 P W _) nn150 rfl (by simp only [mF, mW, mN, DX, MRd_expr, MRd_isSign]; omega) (by simp only [mF, mW, mN, DX, MRd_expr, MRd_isSign]; omega) (fun _ => rfl) rfl (fun z7 G8 => ?_)
      refine r_if_ne 36 35 dX8_expr_32 rfl rfl ?_ ?_
      · refine r_aload_n 37 0 dX8_expr_36 rfl rfl rfl ?_
        refine r_get 40 (aI (G8 150 2)) dX8_expr_37 fkX8_31 (fun _ => dsC_150 P W _) nn150 rfl rfl ?_
        refine r_istore_n 41 [(1, aI (G8 150 2)), (0, aR 150)] dX8_expr_40 rfl rfl rfl rfl ?_
        refine r_aload_n 42 1 dX8_expr_41 rfl rfl rfl ?_
        refine r_iload_n 43 0 dX8_expr_42 rfl rfl rfl ?_
        refine r_callvV 46 (Mc := MRd_enter P W) (o := 150) (as := [aI (G8 150 2)]) (st := []) dX8_expr_43 rfl (c_Rd_enter P W (G8 150 2) G8) lkX8_254 (cmRd_enter P W) rfl rfl rfl (fun _ => dsC_150 P W _) nn150 rfl (by simp only [mF, mW, mN, DX, MRd_expr, MRd_enter]; omega) (by simp only [mF, mW, mN, DX, MRd_expr, MRd_enter]; omega) (fun _ => rfl) rfl (fun z9 G10 => ?_)
        refine r_aload_n 47 1 dX8_expr_46 rfl rfl rfl ?_
        refine r_dup 48 dX8_expr_47 rfl rfl ?_
        refine r_get 51 (aI (G10 150 2)) dX8_expr_48 fkX8_31 (fun _ => dsC_150 P W _) nn150 rfl rfl ?_
        refine r_iconst 52 1 dX8_expr_51 rfl rfl ?_
        refine r_iadd 53 dX8_expr_52 rfl ?_
        refine r_putI 56 dX8_expr_53 fkX8_31 (fun _ => dsC_150 P W _) nn150 rfl rfl ?_
        refine ss_tk (fun G11 => ?_)
        refine r_aload_n 57 1 dX8_expr_56 rfl rfl rfl ?_
        refine r_callvV 60 (Mc := MRd_expr P W d) (o := 150) (as := []) (st := []) dX8_expr_57 rfl (hRf.1 G11) lkX8_211 (cmRd_expr P W d) rfl rfl rfl (fun _ => dsC_150 P W _) nn150 rfl (by simp only [mF, mW, mN, DX, MRd_expr, MRd_expr]; omega) (by simp only [mF, mW, mN, DX, MRd_expr, MRd_expr]; omega) (fun _ => rfl) rfl (fun z12 G13 => ?_)
        refine r_aload_n 61 1 dX8_expr_60 rfl rfl rfl ?_
        refine r_bipush 63 58 dX8_expr_61 rfl rfl ?_
        refine r_callvV 66 (Mc := MRd_sign P W) (o := 150) (as := [aI 58]) (st := []) dX8_expr_63 rfl (c_Rd_sign P W 58 G13) lkX8_182 (cmRd_sign P W) rfl rfl rfl (fun _ => dsC_150 P W _) nn150 rfl (by simp only [mF, mW, mN, DX, MRd_expr, MRd_sign]; omega) (by simp only [mF, mW, mN, DX, MRd_expr, MRd_sign]; omega) (fun _ => rfl) rfl (fun z14 G15 => ?_)
        refine r_aload_n 67 1 dX8_expr_66 rfl rfl rfl ?_
        refine r_callvV 70 (Mc := MRd_expr P W d) (o := 150) (as := []) (st := []) dX8_expr_67 rfl (hRf.1 G15) lkX8_211 (cmRd_expr P W d) rfl rfl rfl (fun _ => dsC_150 P W _) nn150 rfl (by simp only [mF, mW, mN, DX, MRd_expr, MRd_expr]; omega) (by simp only [mF, mW, mN, DX, MRd_expr, MRd_expr]; omega) (fun _ => rfl) rfl (fun z16 G17 => ?_)
        refine r_aload_n 71 1 dX8_expr_70 rfl rfl rfl ?_
        refine r_dup 72 dX8_expr_71 rfl rfl ?_
        refine r_get 75 (aI (G17 150 3)) dX8_expr_72 fkX8_130 (fun _ => dsC_150 P W _) nn150 rfl rfl ?_
        refine r_iconst 76 1 dX8_expr_75 rfl rfl ?_
        refine r_isub 77 dX8_expr_76 rfl ?_
        refine r_putI 80 dX8_expr_77 fkX8_130 (fun _ => dsC_150 P W _) nn150 rfl rfl ?_
        refine ss_tk (fun G18 => ?_)
        refine r_aload_n 81 1 dX8_expr_80 rfl rfl rfl ?_
        refine r_get 84 (aR 110) dX8_expr_81 fkX8_19 (fun _ => dsC_150 P W _) nn150 rfl rfl ?_
        refine r_gets 87 59 dX8_expr_84 q1238 rfl rfl ?_
        refine r_iconst 88 0 dX8_expr_87 rfl rfl ?_
        refine r_iload_n 89 0 dX8_expr_88 rfl rfl rfl ?_
        refine r_iconst 90 0 dX8_expr_89 rfl rfl ?_
        refine r_callvI 93 (Mc := MCd_add P W) (o := 110) (as := [aR 59, aI 0, aI (G8 150 2), aI 0]) (st := []) dX8_expr_90 rfl (c_Cd_add P W 59 0 (G8 150 2) 0 G18) lkX8_154 (cmCd_add P W) rfl rfl rfl (fun _ => dsC_110 P W _) nn110 rfl (by simp only [mF, mW, mN, DX, MRd_expr, MCd_add]; omega) (by simp only [mF, mW, mN, DX, MRd_expr, MCd_add]; omega) (fun _ => rfl) rfl (fun z19 G20 => ?_)
        refine r_istore_n 94 [(2, aI z19), (1, aI (G8 150 2)), (0, aR 150)] dX8_expr_93 rfl rfl rfl rfl ?_
        exact r_return dX8_expr_94 rfl
      · exact r_return dX8_expr_35 rfl
  · exact r_return dX8_expr_10 rfl
theorem s_Rd_row_b88 (P W : Int) (d : Nat) (Rf : Nat → List Int → St → Option (Int × St)) (hRf : HRE P W d Rf) (x1 : Int) (X19 : St → Option (Int × St)) (hX19 : ∀ s, So (MRd_row P W (d + 1)) 19 [(0, aR 150), (1, aI x1)] [] s (X19 s)) (x2 : Int) (x3 : Int) (G : St) : SS (MRd_row P W (d + 1)) (lk X19 some) 88 [(0, aR 150), (1, aI x1), (2, aR x2), (3, aI x3)] [] G (Rd_row_b88 Rf x1 x2 x3 G) := by
  refine r_aload_n 89 0 dX8_row_88 rfl rfl rfl ?_
  refine r_get 92 (aR 110) dX8_row_89 fkX8_19 (fun _ => dsC_150 P W _) nn150 rfl rfl ?_
  refine r_aload_n 93 2 dX8_row_92 rfl rfl rfl ?_
  refine r_iconst 94 0 dX8_row_93 rfl rfl ?_
  refine r_iload_n 95 3 dX8_row_94 rfl rfl rfl ?_
  refine r_iconst 96 0 dX8_row_95 rfl rfl ?_
  refine r_callvI 99 (Mc := MCd_add P W) (o := 110) (as := [aR x2, aI 0, aI x3, aI 0]) (st := []) dX8_row_96 rfl (c_Cd_add P W x2 0 x3 0 G) lkX8_154 (cmCd_add P W) rfl rfl rfl (fun _ => dsC_110 P W _) nn110 rfl (by simp only [mF, mW, mN, DX, MRd_row, MCd_add]; omega) (by simp only [mF, mW, mN, DX, MRd_row, MCd_add]; omega) (fun _ => rfl) rfl (fun z12 G13 => ?_)
  refine r_istore 101 [(5, aI z12), (0, aR 150), (1, aI x1), (2, aR x2), (3, aI x3)] dX8_row_99 rfl rfl rfl ?_
  refine r_aload_n 102 1 dX8_row_101 rfl rfl rfl ?_
  refine r_get 105 (aR 130) dX8_row_102 fkX8_27 (fun _ => dsC_150 P W _) nn150 rfl rfl ?_
  refine r_callvI 108 (Mc := MFt_is P W) (o := 130) (as := []) (st := []) dX8_row_105 rfl (c_Ft_is P W G13) lkX8_96 (cmFt_is P W) rfl rfl rfl (fun _ => dsC_130 P W _) nn130 rfl (by simp only [mF, mW, mN, DX, MRd_row, MFt_is]; omega) (by simp only [mF, mW, mN, DX, MRd_row, MFt_is]; omega) (fun _ => rfl) rfl (fun z14 G15 => ?_)
  refine r_if_ne 115 111 dX8_row_108 rfl rfl ?_ ?_
  · refine r_goto 19 dX8_row_115 rfl ?_
    refine r_to [1, 2] [(0, aR 150), (1, aI x1)] rfl ?_
    exact SS.back (hX19 (G15))
  · refine r_aload_n 112 1 dX8_row_111 rfl rfl rfl ?_
    refine r_callvV 115 (Mc := MRd_findOperator P W) (o := 150) (as := []) (st := []) dX8_row_112 rfl (c_Rd_findOperator P W G15) lkX8_374 (cmRd_findOperator P W) rfl rfl rfl (fun _ => dsC_150 P W _) nn150 rfl (by simp only [mF, mW, mN, DX, MRd_row, MRd_findOperator]; omega) (by simp only [mF, mW, mN, DX, MRd_row, MRd_findOperator]; omega) (fun _ => rfl) rfl (fun z16 G17 => ?_)
    refine r_goto 19 dX8_row_115 rfl ?_
    refine r_to [1, 2] [(0, aR 150), (1, aI x1)] rfl ?_
    exact SS.back (hX19 (G17))
theorem s_Rd_row_s19 (P W : Int) (d : Nat) (Rf : Nat → List Int → St → Option (Int × St)) (hRf : HRE P W d Rf) (x1 : Int) (X19 : St → Option (Int × St)) (hX19 : ∀ s, So (MRd_row P W (d + 1)) 19 [(0, aR 150), (1, aI x1)] [] s (X19 s)) (G : St) : SS (MRd_row P W (d + 1)) (lk X19 some) 19 [(0, aR 150), (1, aI x1)] [] G (Rd_row_s19 Rf x1 G) := by
  refine r_aload_n 20 0 dX8_row_19 rfl rfl rfl ?_
  refine r_get 23 (aR 130) dX8_row_20 fkX8_27 (fun _ => dsC_150 P W _) nn150 rfl rfl ?_
  refine r_callvI 26 (Mc := MFt_is P W) (o := 130) (as := []) (st := []) dX8_row_23 rfl (c_Ft_is P W G) lkX8_96 (cmFt_is P W) rfl rfl rfl (fun _ => dsC_130 P W _) nn130 rfl (by simp only [mF, mW, mN, DX, MRd_row, MFt_is]; omega) (by simp only [mF, mW, mN, DX, MRd_row, MFt_is]; omega) (fun _ => rfl) rfl (fun z7 G8 => ?_)
  refine r_if_ne 118 29 dX8_row_26 rfl rfl ?_ ?_
  · refine SS.ex ?_
    exact r_return dX8_row_118 rfl
  · refine r_aload_n 30 0 dX8_row_29 rfl rfl rfl ?_
    refine r_get 33 (aI (G8 150 15)) dX8_row_30 fkX8_311 (fun _ => dsC_150 P W _) nn150 rfl rfl ?_
    refine r_iload_n 34 1 dX8_row_33 rfl rfl rfl ?_
    refine r_icmp_lt 118 37 dX8_row_34 rfl rfl ?_ ?_
    · refine SS.ex ?_
      exact r_return dX8_row_118 rfl
    · refine r_aload_n 38 0 dX8_row_37 rfl rfl rfl ?_
      refine r_get 41 (aR (G8 150 13)) dX8_row_38 fkX8_305 (fun _ => dsC_150 P W _) nn150 rfl rfl ?_
      refine r_astore_n 42 [(2, aR (G8 150 13)), (0, aR 150), (1, aI x1)] dX8_row_41 rfl rfl rfl rfl ?_
      refine r_aload_n 43 1 dX8_row_42 rfl rfl rfl ?_
      refine r_get 46 (aI (G8 150 2)) dX8_row_43 fkX8_31 (fun _ => dsC_150 P W _) nn150 rfl rfl ?_
      refine r_istore_n 47 [(3, aI (G8 150 2)), (2, aR (G8 150 13)), (0, aR 150), (1, aI x1)] dX8_row_46 rfl rfl rfl rfl ?_
      refine r_aload_n 48 2 dX8_row_47 rfl rfl rfl ?_
      refine r_get 51 (aI (G8 150 15)) dX8_row_48 fkX8_311 (fun _ => dsC_150 P W _) nn150 rfl rfl ?_
      refine r_iconst 52 1 dX8_row_51 rfl rfl ?_
      refine r_iadd 53 dX8_row_52 rfl ?_
      refine r_istore 55 [(4, aI ((G8 150 15) + 1)), (3, aI (G8 150 2)), (2, aR (G8 150 13)), (0, aR 150), (1, aI x1)] dX8_row_53 rfl rfl rfl ?_
      refine r_aload_n 56 3 dX8_row_55 rfl rfl rfl ?_
      refine r_dup 57 dX8_row_56 rfl rfl ?_
      refine r_get 60 (aI (G8 150 2)) dX8_row_57 fkX8_31 (fun _ => dsC_150 P W _) nn150 rfl rfl ?_
      refine r_aload_n 61 3 dX8_row_60 rfl rfl rfl ?_
      refine r_get 64 (aI (G8 150 14)) dX8_row_61 fkX8_308 (fun _ => dsC_150 P W _) nn150 rfl rfl ?_
      refine r_iadd 65 dX8_row_64 rfl ?_
      refine r_putI 68 dX8_row_65 fkX8_31 (fun _ => dsC_150 P W _) nn150 rfl rfl ?_
      refine ss_tk (fun G9 => ?_)
      refine r_iload 70 0 dX8_row_68 rfl rfl ?_
      refine r_bipush 72 10 dX8_row_70 rfl rfl ?_
      refine r_icmp_ge 84 75 dX8_row_72 rfl rfl ?_ ?_
      · refine r_aload_n 85 3 dX8_row_84 rfl rfl rfl ?_
        refine r_callvV 88 (Mc := MRd_factor P W d) (o := 150) (as := []) (st := []) dX8_row_85 rfl (hRf.2.2.1 G9) lkX8_371 (cmRd_factor P W d) rfl rfl rfl (fun _ => dsC_150 P W _) nn150 rfl (by simp only [mF, mW, mN, DX, MRd_row, MRd_factor]; omega) (by simp only [mF, mW, mN, DX, MRd_row, MRd_factor]; omega) (fun _ => rfl) rfl (fun z10 G11 => ?_)
        refine r_to [3, 4, 2, 1] [(0, aR 150), (1, aI x1), (2, aR (G8 150 13)), (3, aI (G8 150 2))] rfl ?_
        exact s_Rd_row_b88 P W d Rf hRf x1 X19 hX19 (G8 150 13) (G8 150 2) G11
      · refine r_aload_n 76 3 dX8_row_75 rfl rfl rfl ?_
        refine r_iload 78 0 dX8_row_76 rfl rfl ?_
        refine r_callvV 81 (Mc := MRd_row P W d) (o := 150) (as := [aI ((G8 150 15) + 1)]) (st := []) dX8_row_78 rfl (hRf.2.1 ((G8 150 15) + 1) G9) lkX8_299 (cmRd_row P W d) rfl rfl rfl (fun _ => dsC_150 P W _) nn150 rfl (by simp only [mF, mW, mN, DX, MRd_row, MRd_row]; omega) (by simp only [mF, mW, mN, DX, MRd_row, MRd_row]; omega) (fun _ => rfl) rfl (fun z18 G19 => ?_)
        refine r_goto 88 dX8_row_81 rfl ?_
        refine r_to [3, 4, 2, 1] [(0, aR 150), (1, aI x1), (2, aR (G8 150 13)), (3, aI (G8 150 2))] rfl ?_
        exact s_Rd_row_b88 P W d Rf hRf x1 X19 hX19 (G8 150 13) (G8 150 2) G19
theorem sl_Rd_row_19 (P W : Int) (d : Nat) (Rf : Nat → List Int → St → Option (Int × St)) (hRf : HRE P W d Rf) (x1 : Int) (G : St) : SS (MRd_row P W (d + 1)) some 19 [(0, aR 150), (1, aI x1)] [] G (Rd_row_l19 Rf x1 G) := by
  exact SS.loop (σ := St) (fun s => [(0, aR 150), (1, aI x1)]) (fun s => s) (fun s => Rd_row_s19 Rf x1 s) (fun X19 hX19 s => s_Rd_row_s19 P W d Rf hRf x1  X19 hX19 s) (G)
theorem s_Rd_row (P W : Int) (d : Nat) (Rf : Nat → List Int → St → Option (Int × St)) (hRf : HRE P W d Rf) (x1 : Int) (G : St) : SS (MRd_row P W (d + 1)) some 0 [(0, aR 150), (1, aI x1)] [] G (Rd_row Rf x1 G) := by
  refine r_aload_n 1 0 dX8_row_0 rfl rfl rfl ?_
  refine r_callvV 4 (Mc := MRd_factor P W d) (o := 150) (as := []) (st := []) dX8_row_1 rfl (hRf.2.2.1 G) lkX8_371 (cmRd_factor P W d) rfl rfl rfl (fun _ => dsC_150 P W _) nn150 rfl (by simp only [mF, mW, mN, DX, MRd_row, MRd_factor]; omega) (by simp only [mF, mW, mN, DX, MRd_row, MRd_factor]; omega) (fun _ => rfl) rfl (fun z1 G2 => ?_)
  refine r_aload_n 5 0 dX8_row_4 rfl rfl rfl ?_
  refine r_get 8 (aR 130) dX8_row_5 fkX8_27 (fun _ => dsC_150 P W _) nn150 rfl rfl ?_
  refine r_callvI 11 (Mc := MFt_is P W) (o := 130) (as := []) (st := []) dX8_row_8 rfl (c_Ft_is P W G2) lkX8_96 (cmFt_is P W) rfl rfl rfl (fun _ => dsC_130 P W _) nn130 rfl (by simp only [mF, mW, mN, DX, MRd_row, MFt_is]; omega) (by simp only [mF, mW, mN, DX, MRd_row, MFt_is]; omega) (fun _ => rfl) rfl (fun z3 G4 => ?_)
  refine r_if_eq 15 14 dX8_row_11 rfl rfl ?_ ?_
  · refine r_aload_n 16 0 dX8_row_15 rfl rfl rfl ?_
    refine r_callvV 19 (Mc := MRd_findOperator P W) (o := 150) (as := []) (st := []) dX8_row_16 rfl (c_Rd_findOperator P W G4) lkX8_374 (cmRd_findOperator P W) rfl rfl rfl (fun _ => dsC_150 P W _) nn150 rfl (by simp only [mF, mW, mN, DX, MRd_row, MRd_findOperator]; omega) (by simp only [mF, mW, mN, DX, MRd_row, MRd_findOperator]; omega) (fun _ => rfl) rfl (fun z5 G6 => ?_)
    exact sl_Rd_row_19 P W d Rf hRf x1 G6
  · exact r_return dX8_row_14 rfl
theorem s_Rd_factor_b114 (P W : Int) (d : Nat) (Rf : Nat → List Int → St → Option (Int × St)) (hRf : HRE P W d Rf) (x1 : Int) (s0 : Int) (G : St) : SS (MRd_factor P W (d + 1)) some 114 [(1, aI x1)] [aR s0, aR 110] G (Rd_factor_b114 Rf x1 s0 G) := by
  refine r_iconst 115 0 dX8_factor_114 rfl rfl ?_
  refine r_iload_n 116 0 dX8_factor_115 rfl rfl rfl ?_
  refine r_iconst 117 0 dX8_factor_116 rfl rfl ?_
  refine r_callvI 120 (Mc := MCd_add P W) (o := 110) (as := [aR s0, aI 0, aI x1, aI 0]) (st := []) dX8_factor_117 rfl (c_Cd_add P W s0 0 x1 0 G) lkX8_154 (cmCd_add P W) rfl rfl rfl (fun _ => dsC_110 P W _) nn110 rfl (by simp only [mF, mW, mN, DX, MRd_factor, MCd_add]; omega) (by simp only [mF, mW, mN, DX, MRd_factor, MCd_add]; omega) (fun _ => rfl) rfl (fun z13 G14 => ?_)
  refine r_istore_n 121 [(3, aI z13), (1, aI x1)] dX8_factor_120 rfl rfl rfl rfl ?_
  refine r_goto 343 dX8_factor_121 rfl ?_
  exact r_return dX8_factor_343 rfl
theorem s_Rd_factor_b54 (P W : Int) (d : Nat) (Rf : Nat → List Int → St → Option (Int × St)) (hRf : HRE P W d Rf) (x1 : Int) (x2 : Int) (G : St) : SS (MRd_factor P W (d + 1)) some 54 [(0, aR 150), (1, aI x1), (2, aI x2)] [] G (Rd_factor_b54 Rf x1 x2 G) := by
  refine r_aload_n 55 0 dX8_factor_54 rfl rfl rfl ?_
  refine r_iload_n 56 1 dX8_factor_55 rfl rfl rfl ?_
  refine r_callvV 59 (Mc := MRd_enter P W) (o := 150) (as := [aI x1]) (st := []) dX8_factor_56 rfl (c_Rd_enter P W x1 G) lkX8_254 (cmRd_enter P W) rfl rfl rfl (fun _ => dsC_150 P W _) nn150 rfl (by simp only [mF, mW, mN, DX, MRd_factor, MRd_enter]; omega) (by simp only [mF, mW, mN, DX, MRd_factor, MRd_enter]; omega) (fun _ => rfl) rfl (fun z7 G8 => ?_)
  refine r_aload_n 60 0 dX8_factor_59 rfl rfl rfl ?_
  refine r_dup 61 dX8_factor_60 rfl rfl ?_
  refine r_get 64 (aI (G8 150 2)) dX8_factor_61 fkX8_31 (fun _ => dsC_150 P W _) nn150 rfl rfl ?_
  refine r_iconst 65 1 dX8_factor_64 rfl rfl ?_
  refine r_iadd 66 dX8_factor_65 rfl ?_
  refine r_putI 69 dX8_factor_66 fkX8_31 (fun _ => dsC_150 P W _) nn150 rfl rfl ?_
  refine ss_tk (fun G9 => ?_)
  refine r_aload_n 70 0 dX8_factor_69 rfl rfl rfl ?_
  refine r_callvV 73 (Mc := MRd_factor P W d) (o := 150) (as := []) (st := []) dX8_factor_70 rfl (hRf.2.2.1 G9) lkX8_371 (cmRd_factor P W d) rfl rfl rfl (fun _ => dsC_150 P W _) nn150 rfl (by simp only [mF, mW, mN, DX, MRd_factor, MRd_factor]; omega) (by simp only [mF, mW, mN, DX, MRd_factor, MRd_factor]; omega) (fun _ => rfl) rfl (fun z10 G11 => ?_)
  refine r_aload_n 74 0 dX8_factor_73 rfl rfl rfl ?_
  refine r_dup 75 dX8_factor_74 rfl rfl ?_
  refine r_get 78 (aI (G11 150 3)) dX8_factor_75 fkX8_130 (fun _ => dsC_150 P W _) nn150 rfl rfl ?_
  refine r_iconst 79 1 dX8_factor_78 rfl rfl ?_
  refine r_isub 80 dX8_factor_79 rfl ?_
  refine r_putI 83 dX8_factor_80 fkX8_130 (fun _ => dsC_150 P W _) nn150 rfl rfl ?_
  refine ss_tk (fun G12 => ?_)
  refine r_aload_n 84 0 dX8_factor_83 rfl rfl rfl ?_
  refine r_get 87 (aR 110) dX8_factor_84 fkX8_19 (fun _ => dsC_150 P W _) nn150 rfl rfl ?_
  refine r_iload_n 88 2 dX8_factor_87 rfl rfl rfl ?_
  refine r_bipush 90 45 dX8_factor_88 rfl rfl ?_
  refine SS.phi (fun VV_ => Rd_factor_b114 Rf x1 VV_ G12) ?_
  refine r_icmp_ne 99 93 dX8_factor_90 rfl rfl ?_ ?_
  · refine r_iload_n 100 2 dX8_factor_99 rfl rfl rfl ?_
    refine r_bipush 102 126 dX8_factor_100 rfl rfl ?_
    refine SS.phi (fun VV_ => Rd_factor_b114 Rf x1 VV_ G12) ?_
    refine r_icmp_ne 111 105 dX8_factor_102 rfl rfl ?_ ?_
    · refine r_gets 114 58 dX8_factor_111 q1141 rfl rfl ?_
      refine r_to [1] [(1, aI x1)] rfl ?_
      exact s_Rd_factor_b114 P W d Rf hRf x1 58 G12
    · refine r_gets 108 57 dX8_factor_105 q1139 rfl rfl ?_
      refine r_goto 114 dX8_factor_108 rfl ?_
      refine r_to [1] [(1, aI x1)] rfl ?_
      exact s_Rd_factor_b114 P W d Rf hRf x1 57 G12
  · refine r_gets 96 56 dX8_factor_93 q1137 rfl rfl ?_
    refine r_goto 114 dX8_factor_96 rfl ?_
    refine r_to [1] [(1, aI x1)] rfl ?_
    exact s_Rd_factor_b114 P W d Rf hRf x1 56 G12
theorem s_Rd_factor_b239 (P W : Int) (d : Nat) (Rf : Nat → List Int → St → Option (Int × St)) (hRf : HRE P W d Rf) (x1 : Int) (s0 : Int) (G : St) : SS (MRd_factor P W (d + 1)) some 239 [(0, aR 150), (1, aI x1)] [aR s0, aR 110] G (Rd_factor_b239 Rf x1 s0 G) := by
  refine r_iconst 240 0 dX8_factor_239 rfl rfl ?_
  refine r_iload_n 241 1 dX8_factor_240 rfl rfl rfl ?_
  refine r_iconst 242 0 dX8_factor_241 rfl rfl ?_
  refine r_callvI 245 (Mc := MCd_add P W) (o := 110) (as := [aR s0, aI 0, aI x1, aI 0]) (st := []) dX8_factor_242 rfl (c_Cd_add P W s0 0 x1 0 G) lkX8_154 (cmCd_add P W) rfl rfl rfl (fun _ => dsC_110 P W _) nn110 rfl (by simp only [mF, mW, mN, DX, MRd_factor, MCd_add]; omega) (by simp only [mF, mW, mN, DX, MRd_factor, MCd_add]; omega) (fun _ => rfl) rfl (fun z21 G22 => ?_)
  refine r_istore_n 246 [(3, aI z21), (0, aR 150), (1, aI x1)] dX8_factor_245 rfl rfl rfl rfl ?_
  refine r_aload_n 247 1 dX8_factor_246 rfl rfl rfl ?_
  refine r_aload_n 248 1 dX8_factor_247 rfl rfl rfl ?_
  refine r_callvI 251 (Mc := MRd_wordEnd P W) (o := 150) (as := []) (st := [aR 150]) dX8_factor_248 rfl (c_Rd_wordEnd P W G22) lkX8_56 (cmRd_wordEnd P W) rfl rfl rfl (fun _ => dsC_150 P W _) nn150 rfl (by simp only [mF, mW, mN, DX, MRd_factor, MRd_wordEnd]; omega) (by simp only [mF, mW, mN, DX, MRd_factor, MRd_wordEnd]; omega) (fun _ => rfl) rfl (fun z23 G24 => ?_)
  refine r_putI 254 dX8_factor_251 fkX8_31 (fun _ => dsC_150 P W _) nn150 rfl rfl ?_
  refine ss_tk (fun G25 => ?_)
  refine r_goto 343 dX8_factor_254 rfl ?_
  exact r_return dX8_factor_343 rfl
theorem s_Rd_factor_b217 (P W : Int) (d : Nat) (Rf : Nat → List Int → St → Option (Int × St)) (hRf : HRE P W d Rf) (x1 : Int) (G : St) : SS (MRd_factor P W (d + 1)) some 217 [(0, aR 150), (1, aI x1)] [] G (Rd_factor_b217 Rf x1 G) := by
  refine r_aload_n 218 0 dX8_factor_217 rfl rfl rfl ?_
  refine r_get 221 (aR 110) dX8_factor_218 fkX8_19 (fun _ => dsC_150 P W _) nn150 rfl rfl ?_
  refine r_aload_n 222 0 dX8_factor_221 rfl rfl rfl ?_
  refine r_ldcs 224 11 dX8_factor_222 q1048 rfl rfl rfl ?_
  refine r_callvI 227 (Mc := MRd_isWord P W) (o := 150) (as := [aR 81]) (st := [aR 110]) dX8_factor_224 rfl (c_Rd_isWord P W 81 G) lkX8_65 (cmRd_isWord P W) rfl rfl rfl (fun _ => dsC_150 P W _) nn150 rfl (by simp only [mF, mW, mN, DX, MRd_factor, MRd_isWord]; omega) (by simp only [mF, mW, mN, DX, MRd_factor, MRd_isWord]; omega) (fun _ => rfl) rfl (fun z19 G20 => ?_)
  refine SS.phi (fun VV_ => Rd_factor_b239 Rf x1 VV_ G20) ?_
  refine r_if_eq 236 230 dX8_factor_227 rfl rfl ?_ ?_
  · refine r_gets 239 24 dX8_factor_236 q1156 rfl rfl ?_
    exact s_Rd_factor_b239 P W d Rf hRf x1 24 G20
  · refine r_gets 233 23 dX8_factor_230 q1154 rfl rfl ?_
    refine r_goto 239 dX8_factor_233 rfl ?_
    exact s_Rd_factor_b239 P W d Rf hRf x1 23 G20
theorem s_Rd_factor_b124 (P W : Int) (d : Nat) (Rf : Nat → List Int → St → Option (Int × St)) (hRf : HRE P W d Rf) (x1 : Int) (x2 : Int) (G : St) : SS (MRd_factor P W (d + 1)) some 124 [(0, aR 150), (1, aI x1), (2, aI x2)] [] G (Rd_factor_b124 Rf x1 x2 G) := by
  refine r_iload_n 125 2 dX8_factor_124 rfl rfl rfl ?_
  refine r_bipush 127 40 dX8_factor_125 rfl rfl ?_
  refine r_icmp_ne 165 130 dX8_factor_127 rfl rfl ?_ ?_
  · refine r_iload_n 166 2 dX8_factor_165 rfl rfl rfl ?_
    refine r_callsI 169 (Mc := MRd_isDigit P W) (as := [aI x2]) (st := []) dX8_factor_166 rfl (c_Rd_isDigit P W x2 G) q985 (cmRd_isDigit P W) rfl rfl rfl (by simp only [mF, mW, mN, DX, MRd_factor, MRd_isDigit]; omega) (by simp only [mF, mW, mN, DX, MRd_factor, MRd_isDigit]; omega) (fun _ => rfl) rfl (fun z15 G16 => ?_)
    refine r_if_eq 199 172 dX8_factor_169 rfl rfl ?_ ?_
    · refine r_aload_n 200 0 dX8_factor_199 rfl rfl rfl ?_
      refine r_ldcs 202 11 dX8_factor_200 q1048 rfl rfl rfl ?_
      refine r_callvI 205 (Mc := MRd_isWord P W) (o := 150) (as := [aR 81]) (st := []) dX8_factor_202 rfl (c_Rd_isWord P W 81 G16) lkX8_65 (cmRd_isWord P W) rfl rfl rfl (fun _ => dsC_150 P W _) nn150 rfl (by simp only [mF, mW, mN, DX, MRd_factor, MRd_isWord]; omega) (by simp only [mF, mW, mN, DX, MRd_factor, MRd_isWord]; omega) (fun _ => rfl) rfl (fun z17 G18 => ?_)
      refine r_if_ne 217 208 dX8_factor_205 rfl rfl ?_ ?_
      · refine r_to [0, 1] [(0, aR 150), (1, aI x1)] rfl ?_
        exact s_Rd_factor_b217 P W d Rf hRf x1 G18
      · refine r_aload_n 209 0 dX8_factor_208 rfl rfl rfl ?_
        refine r_ldcs 211 12 dX8_factor_209 q1049 rfl rfl rfl ?_
        refine r_callvI 214 (Mc := MRd_isWord P W) (o := 150) (as := [aR 82]) (st := []) dX8_factor_211 rfl (c_Rd_isWord P W 82 G18) lkX8_65 (cmRd_isWord P W) rfl rfl rfl (fun _ => dsC_150 P W _) nn150 rfl (by simp only [mF, mW, mN, DX, MRd_factor, MRd_isWord]; omega) (by simp only [mF, mW, mN, DX, MRd_factor, MRd_isWord]; omega) (fun _ => rfl) rfl (fun z26 G27 => ?_)
        refine r_if_eq 257 217 dX8_factor_214 rfl rfl ?_ ?_
        · refine r_aload_n 258 0 dX8_factor_257 rfl rfl rfl ?_
          refine r_ldcs 260 9 dX8_factor_258 q1046 rfl rfl rfl ?_
          refine r_callvI 263 (Mc := MRd_isWord P W) (o := 150) (as := [aR 79]) (st := []) dX8_factor_260 rfl (c_Rd_isWord P W 79 G27) lkX8_65 (cmRd_isWord P W) rfl rfl rfl (fun _ => dsC_150 P W _) nn150 rfl (by simp only [mF, mW, mN, DX, MRd_factor, MRd_isWord]; omega) (by simp only [mF, mW, mN, DX, MRd_factor, MRd_isWord]; omega) (fun _ => rfl) rfl (fun z28 G29 => ?_)
          refine r_if_eq 311 266 dX8_factor_263 rfl rfl ?_ ?_
          · refine r_aload_n 312 0 dX8_factor_311 rfl rfl rfl ?_
            refine r_ldcs 314 10 dX8_factor_312 q1047 rfl rfl rfl ?_
            refine r_callvI 317 (Mc := MRd_isWord P W) (o := 150) (as := [aR 80]) (st := []) dX8_factor_314 rfl (c_Rd_isWord P W 80 G29) lkX8_65 (cmRd_isWord P W) rfl rfl rfl (fun _ => dsC_150 P W _) nn150 rfl (by simp only [mF, mW, mN, DX, MRd_factor, MRd_isWord]; omega) (by simp only [mF, mW, mN, DX, MRd_factor, MRd_isWord]; omega) (fun _ => rfl) rfl (fun z30 G31 => ?_)
            refine r_if_eq 338 320 dX8_factor_317 rfl rfl ?_ ?_
            · refine r_aload_n 339 0 dX8_factor_338 rfl rfl rfl ?_
              refine r_iload_n 340 1 dX8_factor_339 rfl rfl rfl ?_
              refine r_callvV 343 (Mc := MRd_named P W d) (o := 150) (as := [aI x1]) (st := []) dX8_factor_340 rfl (hRf.2.2.2.2.2.1 x1 G31) lkX8_412 (cmRd_named P W d) rfl rfl rfl (fun _ => dsC_150 P W _) nn150 rfl (by simp only [mF, mW, mN, DX, MRd_factor, MRd_named]; omega) (by simp only [mF, mW, mN, DX, MRd_factor, MRd_named]; omega) (fun _ => rfl) rfl (fun z32 G33 => ?_)
              exact r_return dX8_factor_343 rfl
            · refine r_aload_n 321 0 dX8_factor_320 rfl rfl rfl ?_
              refine r_dup 322 dX8_factor_321 rfl rfl ?_
              refine r_get 325 (aI (G31 150 2)) dX8_factor_322 fkX8_31 (fun _ => dsC_150 P W _) nn150 rfl rfl ?_
              refine r_iconst 326 3 dX8_factor_325 rfl rfl ?_
              refine r_iadd 327 dX8_factor_326 rfl ?_
              refine r_putI 330 dX8_factor_327 fkX8_31 (fun _ => dsC_150 P W _) nn150 rfl rfl ?_
              refine ss_tk (fun G34 => ?_)
              refine r_aload_n 331 0 dX8_factor_330 rfl rfl rfl ?_
              refine r_iload_n 332 1 dX8_factor_331 rfl rfl rfl ?_
              refine r_callvV 335 (Mc := MRd_bitOf P W d) (o := 150) (as := [aI x1]) (st := []) dX8_factor_332 rfl (hRf.2.2.2.2.1 x1 G34) lkX8_409 (cmRd_bitOf P W d) rfl rfl rfl (fun _ => dsC_150 P W _) nn150 rfl (by simp only [mF, mW, mN, DX, MRd_factor, MRd_bitOf]; omega) (by simp only [mF, mW, mN, DX, MRd_factor, MRd_bitOf]; omega) (fun _ => rfl) rfl (fun z35 G36 => ?_)
              refine r_goto 343 dX8_factor_335 rfl ?_
              exact r_return dX8_factor_343 rfl
          · refine r_aload_n 267 0 dX8_factor_266 rfl rfl rfl ?_
            refine r_dup 268 dX8_factor_267 rfl rfl ?_
            refine r_get 271 (aI (G29 150 2)) dX8_factor_268 fkX8_31 (fun _ => dsC_150 P W _) nn150 rfl rfl ?_
            refine r_iconst 272 3 dX8_factor_271 rfl rfl ?_
            refine r_iadd 273 dX8_factor_272 rfl ?_
            refine r_putI 276 dX8_factor_273 fkX8_31 (fun _ => dsC_150 P W _) nn150 rfl rfl ?_
            refine ss_tk (fun G37 => ?_)
            refine r_aload_n 277 0 dX8_factor_276 rfl rfl rfl ?_
            refine r_get 280 (aR 110) dX8_factor_277 fkX8_19 (fun _ => dsC_150 P W _) nn150 rfl rfl ?_
            refine r_gets 283 31 dX8_factor_280 q1158 rfl rfl ?_
            refine r_iconst 284 0 dX8_factor_283 rfl rfl ?_
            refine r_iload_n 285 1 dX8_factor_284 rfl rfl rfl ?_
            refine r_iconst 286 0 dX8_factor_285 rfl rfl ?_
            refine r_callvI 289 (Mc := MCd_add P W) (o := 110) (as := [aR 31, aI 0, aI x1, aI 0]) (st := []) dX8_factor_286 rfl (c_Cd_add P W 31 0 x1 0 G37) lkX8_154 (cmCd_add P W) rfl rfl rfl (fun _ => dsC_110 P W _) nn110 rfl (by simp only [mF, mW, mN, DX, MRd_factor, MCd_add]; omega) (by simp only [mF, mW, mN, DX, MRd_factor, MCd_add]; omega) (fun _ => rfl) rfl (fun z38 G39 => ?_)
            refine r_istore_n 290 [(3, aI z38), (0, aR 150), (1, aI x1), (2, aI x2)] dX8_factor_289 rfl rfl rfl rfl ?_
            refine r_aload_n 291 1 dX8_factor_290 rfl rfl rfl ?_
            refine r_callvV 294 (Mc := MRd_around P W d) (o := 150) (as := []) (st := []) dX8_factor_291 rfl (hRf.2.2.2.1 G39) lkX8_272 (cmRd_around P W d) rfl rfl rfl (fun _ => dsC_150 P W _) nn150 rfl (by simp only [mF, mW, mN, DX, MRd_factor, MRd_around]; omega) (by simp only [mF, mW, mN, DX, MRd_factor, MRd_around]; omega) (fun _ => rfl) rfl (fun z40 G41 => ?_)
            refine r_aload_n 295 1 dX8_factor_294 rfl rfl rfl ?_
            refine r_get 298 (aR 110) dX8_factor_295 fkX8_19 (fun _ => dsC_150 P W _) nn150 rfl rfl ?_
            refine r_gets 301 32 dX8_factor_298 q1160 rfl rfl ?_
            refine r_iconst 302 0 dX8_factor_301 rfl rfl ?_
            refine r_iload_n 303 2 dX8_factor_302 rfl rfl rfl ?_
            refine r_iconst 304 0 dX8_factor_303 rfl rfl ?_
            refine r_callvI 307 (Mc := MCd_add P W) (o := 110) (as := [aR 32, aI 0, aI x1, aI 0]) (st := []) dX8_factor_304 rfl (c_Cd_add P W 32 0 x1 0 G41) lkX8_154 (cmCd_add P W) rfl rfl rfl (fun _ => dsC_110 P W _) nn110 rfl (by simp only [mF, mW, mN, DX, MRd_factor, MCd_add]; omega) (by simp only [mF, mW, mN, DX, MRd_factor, MCd_add]; omega) (fun _ => rfl) rfl (fun z42 G43 => ?_)
            refine r_istore_n 308 [(3, aI z42), (0, aR 150), (1, aI x1), (2, aI x2)] dX8_factor_307 rfl rfl rfl rfl ?_
            refine r_goto 343 dX8_factor_308 rfl ?_
            exact r_return dX8_factor_343 rfl
        · refine r_to [0, 1] [(0, aR 150), (1, aI x1)] rfl ?_
          exact s_Rd_factor_b217 P W d Rf hRf x1 G27
    · refine r_aload_n 173 0 dX8_factor_172 rfl rfl rfl ?_
      refine r_lconst 174 0 dX8_factor_173 rfl rfl rfl ?_
      refine r_ldc2 177 4294967295 dX8_factor_174 q1151 (by decide) rfl rfl ?_
      refine r_callvI 180 (Mc := MRd_number P W) (o := 150) (as := [aL 0, aL 4294967295]) (st := []) dX8_factor_177 rfl (c_Rd_number P W 0 4294967295 G16) lkX8_179 (cmRd_number P W) rfl rfl rfl (fun _ => dsC_150 P W _) nn150 rfl (by simp only [mF, mW, mN, DX, MRd_factor, MRd_number]; omega) (by simp only [mF, mW, mN, DX, MRd_factor, MRd_number]; omega) (fun _ => rfl) rfl (fun z44 G45 => ?_)
      refine r_istore_n 181 [(3, aI z44), (0, aR 150), (1, aI x1), (2, aI x2)] dX8_factor_180 rfl rfl rfl rfl ?_
      refine r_aload_n 182 1 dX8_factor_181 rfl rfl rfl ?_
      refine r_get 185 (aR 110) dX8_factor_182 fkX8_19 (fun _ => dsC_150 P W _) nn150 rfl rfl ?_
      refine r_gets 188 22 dX8_factor_185 q1152 rfl rfl ?_
      refine r_iload_n 189 0 dX8_factor_188 rfl rfl rfl ?_
      refine r_iload_n 190 2 dX8_factor_189 rfl rfl rfl ?_
      refine r_iconst 191 0 dX8_factor_190 rfl rfl ?_
      refine r_callvI 194 (Mc := MCd_add P W) (o := 110) (as := [aR 22, aI z44, aI x1, aI 0]) (st := []) dX8_factor_191 rfl (c_Cd_add P W 22 z44 x1 0 G45) lkX8_154 (cmCd_add P W) rfl rfl rfl (fun _ => dsC_110 P W _) nn110 rfl (by simp only [mF, mW, mN, DX, MRd_factor, MCd_add]; omega) (by simp only [mF, mW, mN, DX, MRd_factor, MCd_add]; omega) (fun _ => rfl) rfl (fun z46 G47 => ?_)
      refine r_istore 196 [(4, aI z46), (3, aI z44), (0, aR 150), (1, aI x1), (2, aI x2)] dX8_factor_194 rfl rfl rfl ?_
      refine r_goto 343 dX8_factor_196 rfl ?_
      exact r_return dX8_factor_343 rfl
  · refine r_aload_n 131 0 dX8_factor_130 rfl rfl rfl ?_
    refine r_get 134 (aR 110) dX8_factor_131 fkX8_19 (fun _ => dsC_150 P W _) nn150 rfl rfl ?_
    refine r_gets 137 36 dX8_factor_134 q1143 rfl rfl ?_
    refine r_iconst 138 0 dX8_factor_137 rfl rfl ?_
    refine r_iload_n 139 1 dX8_factor_138 rfl rfl rfl ?_
    refine r_iconst 140 0 dX8_factor_139 rfl rfl ?_
    refine r_callvI 143 (Mc := MCd_add P W) (o := 110) (as := [aR 36, aI 0, aI x1, aI 0]) (st := []) dX8_factor_140 rfl (c_Cd_add P W 36 0 x1 0 G) lkX8_154 (cmCd_add P W) rfl rfl rfl (fun _ => dsC_110 P W _) nn110 rfl (by simp only [mF, mW, mN, DX, MRd_factor, MCd_add]; omega) (by simp only [mF, mW, mN, DX, MRd_factor, MCd_add]; omega) (fun _ => rfl) rfl (fun z48 G49 => ?_)
    refine r_istore_n 144 [(3, aI z48), (0, aR 150), (1, aI x1), (2, aI x2)] dX8_factor_143 rfl rfl rfl rfl ?_
    refine r_aload_n 145 1 dX8_factor_144 rfl rfl rfl ?_
    refine r_callvV 148 (Mc := MRd_around P W d) (o := 150) (as := []) (st := []) dX8_factor_145 rfl (hRf.2.2.2.1 G49) lkX8_272 (cmRd_around P W d) rfl rfl rfl (fun _ => dsC_150 P W _) nn150 rfl (by simp only [mF, mW, mN, DX, MRd_factor, MRd_around]; omega) (by simp only [mF, mW, mN, DX, MRd_factor, MRd_around]; omega) (fun _ => rfl) rfl (fun z50 G51 => ?_)
    refine r_aload_n 149 1 dX8_factor_148 rfl rfl rfl ?_
    refine r_get 152 (aR 110) dX8_factor_149 fkX8_19 (fun _ => dsC_150 P W _) nn150 rfl rfl ?_
    refine r_gets 155 37 dX8_factor_152 q1149 rfl rfl ?_
    refine r_iconst 156 0 dX8_factor_155 rfl rfl ?_
    refine r_iload_n 157 2 dX8_factor_156 rfl rfl rfl ?_
    refine r_iconst 158 0 dX8_factor_157 rfl rfl ?_
    refine r_callvI 161 (Mc := MCd_add P W) (o := 110) (as := [aR 37, aI 0, aI x1, aI 0]) (st := []) dX8_factor_158 rfl (c_Cd_add P W 37 0 x1 0 G51) lkX8_154 (cmCd_add P W) rfl rfl rfl (fun _ => dsC_110 P W _) nn110 rfl (by simp only [mF, mW, mN, DX, MRd_factor, MCd_add]; omega) (by simp only [mF, mW, mN, DX, MRd_factor, MCd_add]; omega) (fun _ => rfl) rfl (fun z52 G53 => ?_)
    refine r_istore_n 162 [(3, aI z52), (0, aR 150), (1, aI x1), (2, aI x2)] dX8_factor_161 rfl rfl rfl rfl ?_
    refine r_goto 343 dX8_factor_162 rfl ?_
    exact r_return dX8_factor_343 rfl
theorem s_Rd_factor (P W : Int) (d : Nat) (Rf : Nat → List Int → St → Option (Int × St)) (hRf : HRE P W d Rf) (G : St) : SS (MRd_factor P W (d + 1)) some 0 [(0, aR 150)] [] G (Rd_factor Rf G) := by
  refine r_aload_n 1 0 dX8_factor_0 rfl rfl rfl ?_
  refine r_callvV 4 (Mc := MRd_skip P W) (o := 150) (as := []) (st := []) dX8_factor_1 rfl (c_Rd_skip P W G) lkX8_93 (cmRd_skip P W) rfl rfl rfl (fun _ => dsC_150 P W _) nn150 rfl (by simp only [mF, mW, mN, DX, MRd_factor, MRd_skip]; omega) (by simp only [mF, mW, mN, DX, MRd_factor, MRd_skip]; omega) (fun _ => rfl) rfl (fun z1 G2 => ?_)
  refine r_aload_n 5 0 dX8_factor_4 rfl rfl rfl ?_
  refine r_get 8 (aR 130) dX8_factor_5 fkX8_27 (fun _ => dsC_150 P W _) nn150 rfl rfl ?_
  refine r_callvI 11 (Mc := MFt_is P W) (o := 130) (as := []) (st := []) dX8_factor_8 rfl (c_Ft_is P W G2) lkX8_96 (cmFt_is P W) rfl rfl rfl (fun _ => dsC_130 P W _) nn130 rfl (by simp only [mF, mW, mN, DX, MRd_factor, MFt_is]; omega) (by simp only [mF, mW, mN, DX, MRd_factor, MFt_is]; omega) (fun _ => rfl) rfl (fun z3 G4 => ?_)
  refine r_if_eq 15 14 dX8_factor_11 rfl rfl ?_ ?_
  · refine r_aload_n 16 0 dX8_factor_15 rfl rfl rfl ?_
    refine r_get 19 (aI (G4 150 2)) dX8_factor_16 fkX8_31 (fun _ => dsC_150 P W _) nn150 rfl rfl ?_
    refine r_istore_n 20 [(1, aI (G4 150 2)), (0, aR 150)] dX8_factor_19 rfl rfl rfl rfl ?_
    refine r_aload_n 21 1 dX8_factor_20 rfl rfl rfl ?_
    refine r_iconst 22 0 dX8_factor_21 rfl rfl ?_
    refine r_callvI 25 (Mc := MRd_look P W) (o := 150) (as := [aI 0]) (st := []) dX8_factor_22 rfl (c_Rd_look P W 0 G4) lkX8_103 (cmRd_look P W) rfl rfl rfl (fun _ => dsC_150 P W _) nn150 rfl (by simp only [mF, mW, mN, DX, MRd_factor, MRd_look]; omega) (by simp only [mF, mW, mN, DX, MRd_factor, MRd_look]; omega) (fun _ => rfl) rfl (fun z5 G6 => ?_)
    refine r_istore_n 26 [(2, aI z5), (1, aI (G4 150 2)), (0, aR 150)] dX8_factor_25 rfl rfl rfl rfl ?_
    refine r_iload_n 27 0 dX8_factor_26 rfl rfl rfl ?_
    refine r_bipush 29 45 dX8_factor_27 rfl rfl ?_
    refine r_icmp_eq 54 32 dX8_factor_29 rfl rfl ?_ ?_
    · refine r_to [2, 1, 0] [(0, aR 150), (1, aI (G4 150 2)), (2, aI z5)] rfl ?_
      exact s_Rd_factor_b54 P W d Rf hRf (G4 150 2) z5 G6
    · refine r_iload_n 33 0 dX8_factor_32 rfl rfl rfl ?_
      refine r_bipush 35 126 dX8_factor_33 rfl rfl ?_
      refine r_icmp_eq 54 38 dX8_factor_35 rfl rfl ?_ ?_
      · refine r_to [2, 1, 0] [(0, aR 150), (1, aI (G4 150 2)), (2, aI z5)] rfl ?_
        exact s_Rd_factor_b54 P W d Rf hRf (G4 150 2) z5 G6
      · refine r_iload_n 39 0 dX8_factor_38 rfl rfl rfl ?_
        refine r_bipush 41 33 dX8_factor_39 rfl rfl ?_
        refine r_icmp_ne 124 44 dX8_factor_41 rfl rfl ?_ ?_
        · refine r_to [2, 1, 0] [(0, aR 150), (1, aI (G4 150 2)), (2, aI z5)] rfl ?_
          exact s_Rd_factor_b124 P W d Rf hRf (G4 150 2) z5 G6
        · refine r_aload_n 45 2 dX8_factor_44 rfl rfl rfl ?_
          refine r_iconst 46 1 dX8_factor_45 rfl rfl ?_
          refine r_callvI 49 (Mc := MRd_look P W) (o := 150) (as := [aI 1]) (st := []) dX8_factor_46 rfl (c_Rd_look P W 1 G6) lkX8_103 (cmRd_look P W) rfl rfl rfl (fun _ => dsC_150 P W _) nn150 rfl (by simp only [mF, mW, mN, DX, MRd_factor, MRd_look]; omega) (by simp only [mF, mW, mN, DX, MRd_factor, MRd_look]; omega) (fun _ => rfl) rfl (fun z54 G55 => ?_)
          refine r_bipush 51 61 dX8_factor_49 rfl rfl ?_
          refine r_icmp_eq 124 54 dX8_factor_51 rfl rfl ?_ ?_
          · refine r_to [2, 1, 0] [(0, aR 150), (1, aI (G4 150 2)), (2, aI z5)] rfl ?_
            exact s_Rd_factor_b124 P W d Rf hRf (G4 150 2) z5 G55
          · refine r_to [2, 1, 0] [(0, aR 150), (1, aI (G4 150 2)), (2, aI z5)] rfl ?_
            exact s_Rd_factor_b54 P W d Rf hRf (G4 150 2) z5 G55
  · exact r_return dX8_factor_14 rfl
theorem s_Rd_around (P W : Int) (d : Nat) (Rf : Nat → List Int → St → Option (Int × St)) (hRf : HRE P W d Rf) (G : St) : SS (MRd_around P W (d + 1)) some 0 [(0, aR 150)] [] G (Rd_around Rf G) := by
  refine r_aload_n 1 0 dX8_around_0 rfl rfl rfl ?_
  refine r_callvV 4 (Mc := MRd_skip P W) (o := 150) (as := []) (st := []) dX8_around_1 rfl (c_Rd_skip P W G) lkX8_93 (cmRd_skip P W) rfl rfl rfl (fun _ => dsC_150 P W _) nn150 rfl (by simp only [mF, mW, mN, DX, MRd_around, MRd_skip]; omega) (by simp only [mF, mW, mN, DX, MRd_around, MRd_skip]; omega) (fun _ => rfl) rfl (fun z1 G2 => ?_)
  refine r_aload_n 5 0 dX8_around_4 rfl rfl rfl ?_
  refine r_get 8 (aR 130) dX8_around_5 fkX8_27 (fun _ => dsC_150 P W _) nn150 rfl rfl ?_
  refine r_callvI 11 (Mc := MFt_is P W) (o := 130) (as := []) (st := []) dX8_around_8 rfl (c_Ft_is P W G2) lkX8_96 (cmFt_is P W) rfl rfl rfl (fun _ => dsC_130 P W _) nn130 rfl (by simp only [mF, mW, mN, DX, MRd_around, MFt_is]; omega) (by simp only [mF, mW, mN, DX, MRd_around, MFt_is]; omega) (fun _ => rfl) rfl (fun z3 G4 => ?_)
  refine r_if_eq 15 14 dX8_around_11 rfl rfl ?_ ?_
  · refine r_aload_n 16 0 dX8_around_15 rfl rfl rfl ?_
    refine r_iconst 17 0 dX8_around_16 rfl rfl ?_
    refine r_callvI 20 (Mc := MRd_look P W) (o := 150) (as := [aI 0]) (st := []) dX8_around_17 rfl (c_Rd_look P W 0 G4) lkX8_103 (cmRd_look P W) rfl rfl rfl (fun _ => dsC_150 P W _) nn150 rfl (by simp only [mF, mW, mN, DX, MRd_around, MRd_look]; omega) (by simp only [mF, mW, mN, DX, MRd_around, MRd_look]; omega) (fun _ => rfl) rfl (fun z5 G6 => ?_)
    refine r_bipush 22 40 dX8_around_20 rfl rfl ?_
    refine r_icmp_eq 30 25 dX8_around_22 rfl rfl ?_ ?_
    · refine r_aload_n 31 0 dX8_around_30 rfl rfl rfl ?_
      refine r_aload_n 32 0 dX8_around_31 rfl rfl rfl ?_
      refine r_get 35 (aI (G6 150 2)) dX8_around_32 fkX8_31 (fun _ => dsC_150 P W _) nn150 rfl rfl ?_
      refine r_callvV 38 (Mc := MRd_enter P W) (o := 150) (as := [aI (G6 150 2)]) (st := []) dX8_around_35 rfl (c_Rd_enter P W (G6 150 2) G6) lkX8_254 (cmRd_enter P W) rfl rfl rfl (fun _ => dsC_150 P W _) nn150 rfl (by simp only [mF, mW, mN, DX, MRd_around, MRd_enter]; omega) (by simp only [mF, mW, mN, DX, MRd_around, MRd_enter]; omega) (fun _ => rfl) rfl (fun z7 G8 => ?_)
      refine r_aload_n 39 0 dX8_around_38 rfl rfl rfl ?_
      refine r_dup 40 dX8_around_39 rfl rfl ?_
      refine r_get 43 (aI (G8 150 2)) dX8_around_40 fkX8_31 (fun _ => dsC_150 P W _) nn150 rfl rfl ?_
      refine r_iconst 44 1 dX8_around_43 rfl rfl ?_
      refine r_iadd 45 dX8_around_44 rfl ?_
      refine r_putI 48 dX8_around_45 fkX8_31 (fun _ => dsC_150 P W _) nn150 rfl rfl ?_
      refine ss_tk (fun G9 => ?_)
      refine r_aload_n 49 0 dX8_around_48 rfl rfl rfl ?_
      refine r_callvV 52 (Mc := MRd_expr P W d) (o := 150) (as := []) (st := []) dX8_around_49 rfl (hRf.1 G9) lkX8_211 (cmRd_expr P W d) rfl rfl rfl (fun _ => dsC_150 P W _) nn150 rfl (by simp only [mF, mW, mN, DX, MRd_around, MRd_expr]; omega) (by simp only [mF, mW, mN, DX, MRd_around, MRd_expr]; omega) (fun _ => rfl) rfl (fun z10 G11 => ?_)
      refine r_aload_n 53 0 dX8_around_52 rfl rfl rfl ?_
      refine r_bipush 55 41 dX8_around_53 rfl rfl ?_
      refine r_callvV 58 (Mc := MRd_sign P W) (o := 150) (as := [aI 41]) (st := []) dX8_around_55 rfl (c_Rd_sign P W 41 G11) lkX8_182 (cmRd_sign P W) rfl rfl rfl (fun _ => dsC_150 P W _) nn150 rfl (by simp only [mF, mW, mN, DX, MRd_around, MRd_sign]; omega) (by simp only [mF, mW, mN, DX, MRd_around, MRd_sign]; omega) (fun _ => rfl) rfl (fun z12 G13 => ?_)
      refine r_aload_n 59 0 dX8_around_58 rfl rfl rfl ?_
      refine r_dup 60 dX8_around_59 rfl rfl ?_
      refine r_get 63 (aI (G13 150 3)) dX8_around_60 fkX8_130 (fun _ => dsC_150 P W _) nn150 rfl rfl ?_
      refine r_iconst 64 1 dX8_around_63 rfl rfl ?_
      refine r_isub 65 dX8_around_64 rfl ?_
      refine r_putI 68 dX8_around_65 fkX8_130 (fun _ => dsC_150 P W _) nn150 rfl rfl ?_
      refine ss_tk (fun G14 => ?_)
      exact r_return dX8_around_68 rfl
    · refine r_aload_n 26 0 dX8_around_25 rfl rfl rfl ?_
      refine r_callvV 29 (Mc := MRd_bad P W) (o := 150) (as := []) (st := []) dX8_around_26 rfl (c_Rd_bad P W G6) lkX8_100 (cmRd_bad P W) rfl rfl rfl (fun _ => dsC_150 P W _) nn150 rfl (by simp only [mF, mW, mN, DX, MRd_around, MRd_bad]; omega) (by simp only [mF, mW, mN, DX, MRd_around, MRd_bad]; omega) (fun _ => rfl) rfl (fun z15 G16 => ?_)
      exact r_return dX8_around_29 rfl
  · exact r_return dX8_around_14 rfl
theorem s_Rd_bitOf (P W : Int) (d : Nat) (Rf : Nat → List Int → St → Option (Int × St)) (hRf : HRE P W d Rf) (x1 : Int) (G : St) : SS (MRd_bitOf P W (d + 1)) some 0 [(0, aR 150), (1, aI x1)] [] G (Rd_bitOf Rf x1 G) := by
  refine r_aload_n 1 0 dX8_bitOf_0 rfl rfl rfl ?_
  refine r_get 4 (aR 110) dX8_bitOf_1 fkX8_19 (fun _ => dsC_150 P W _) nn150 rfl rfl ?_
  refine r_gets 7 33 dX8_bitOf_4 q1166 rfl rfl ?_
  refine r_iconst 8 0 dX8_bitOf_7 rfl rfl ?_
  refine r_iload_n 9 1 dX8_bitOf_8 rfl rfl rfl ?_
  refine r_iconst 10 0 dX8_bitOf_9 rfl rfl ?_
  refine r_callvI 13 (Mc := MCd_add P W) (o := 110) (as := [aR 33, aI 0, aI x1, aI 0]) (st := []) dX8_bitOf_10 rfl (c_Cd_add P W 33 0 x1 0 G) lkX8_154 (cmCd_add P W) rfl rfl rfl (fun _ => dsC_110 P W _) nn110 rfl (by simp only [mF, mW, mN, DX, MRd_bitOf, MCd_add]; omega) (by simp only [mF, mW, mN, DX, MRd_bitOf, MCd_add]; omega) (fun _ => rfl) rfl (fun z1 G2 => ?_)
  refine r_istore_n 14 [(2, aI z1), (0, aR 150), (1, aI x1)] dX8_bitOf_13 rfl rfl rfl rfl ?_
  refine r_aload_n 15 1 dX8_bitOf_14 rfl rfl rfl ?_
  refine r_callvV 18 (Mc := MRd_skip P W) (o := 150) (as := []) (st := []) dX8_bitOf_15 rfl (c_Rd_skip P W G2) lkX8_93 (cmRd_skip P W) rfl rfl rfl (fun _ => dsC_150 P W _) nn150 rfl (by simp only [mF, mW, mN, DX, MRd_bitOf, MRd_skip]; omega) (by simp only [mF, mW, mN, DX, MRd_bitOf, MRd_skip]; omega) (fun _ => rfl) rfl (fun z3 G4 => ?_)
  refine r_aload_n 19 1 dX8_bitOf_18 rfl rfl rfl ?_
  refine r_iconst 20 0 dX8_bitOf_19 rfl rfl ?_
  refine r_callvI 23 (Mc := MRd_look P W) (o := 150) (as := [aI 0]) (st := []) dX8_bitOf_20 rfl (c_Rd_look P W 0 G4) lkX8_103 (cmRd_look P W) rfl rfl rfl (fun _ => dsC_150 P W _) nn150 rfl (by simp only [mF, mW, mN, DX, MRd_bitOf, MRd_look]; omega) (by simp only [mF, mW, mN, DX, MRd_bitOf, MRd_look]; omega) (fun _ => rfl) rfl (fun z5 G6 => ?_)
  refine r_bipush 25 40 dX8_bitOf_23 rfl rfl ?_
  refine r_icmp_eq 33 28 dX8_bitOf_25 rfl rfl ?_ ?_
  · refine r_aload_n 34 1 dX8_bitOf_33 rfl rfl rfl ?_
    refine r_aload_n 35 1 dX8_bitOf_34 rfl rfl rfl ?_
    refine r_get 38 (aI (G6 150 2)) dX8_bitOf_35 fkX8_31 (fun _ => dsC_150 P W _) nn150 rfl rfl ?_
    refine r_callvV 41 (Mc := MRd_enter P W) (o := 150) (as := [aI (G6 150 2)]) (st := []) dX8_bitOf_38 rfl (c_Rd_enter P W (G6 150 2) G6) lkX8_254 (cmRd_enter P W) rfl rfl rfl (fun _ => dsC_150 P W _) nn150 rfl (by simp only [mF, mW, mN, DX, MRd_bitOf, MRd_enter]; omega) (by simp only [mF, mW, mN, DX, MRd_bitOf, MRd_enter]; omega) (fun _ => rfl) rfl (fun z7 G8 => ?_)
    refine r_aload_n 42 1 dX8_bitOf_41 rfl rfl rfl ?_
    refine r_dup 43 dX8_bitOf_42 rfl rfl ?_
    refine r_get 46 (aI (G8 150 2)) dX8_bitOf_43 fkX8_31 (fun _ => dsC_150 P W _) nn150 rfl rfl ?_
    refine r_iconst 47 1 dX8_bitOf_46 rfl rfl ?_
    refine r_iadd 48 dX8_bitOf_47 rfl ?_
    refine r_putI 51 dX8_bitOf_48 fkX8_31 (fun _ => dsC_150 P W _) nn150 rfl rfl ?_
    refine ss_tk (fun G9 => ?_)
    refine r_aload_n 52 1 dX8_bitOf_51 rfl rfl rfl ?_
    refine r_callvV 55 (Mc := MRd_expr P W d) (o := 150) (as := []) (st := []) dX8_bitOf_52 rfl (hRf.1 G9) lkX8_211 (cmRd_expr P W d) rfl rfl rfl (fun _ => dsC_150 P W _) nn150 rfl (by simp only [mF, mW, mN, DX, MRd_bitOf, MRd_expr]; omega) (by simp only [mF, mW, mN, DX, MRd_bitOf, MRd_expr]; omega) (fun _ => rfl) rfl (fun z10 G11 => ?_)
    refine r_aload_n 56 1 dX8_bitOf_55 rfl rfl rfl ?_
    refine r_get 59 (aR 110) dX8_bitOf_56 fkX8_19 (fun _ => dsC_150 P W _) nn150 rfl rfl ?_
    refine r_gets 62 34 dX8_bitOf_59 q1168 rfl rfl ?_
    refine r_iconst 63 0 dX8_bitOf_62 rfl rfl ?_
    refine r_iload_n 64 2 dX8_bitOf_63 rfl rfl rfl ?_
    refine r_iconst 65 0 dX8_bitOf_64 rfl rfl ?_
    refine r_callvI 68 (Mc := MCd_add P W) (o := 110) (as := [aR 34, aI 0, aI x1, aI 0]) (st := []) dX8_bitOf_65 rfl (c_Cd_add P W 34 0 x1 0 G11) lkX8_154 (cmCd_add P W) rfl rfl rfl (fun _ => dsC_110 P W _) nn110 rfl (by simp only [mF, mW, mN, DX, MRd_bitOf, MCd_add]; omega) (by simp only [mF, mW, mN, DX, MRd_bitOf, MCd_add]; omega) (fun _ => rfl) rfl (fun z12 G13 => ?_)
    refine r_istore_n 69 [(2, aI z12), (0, aR 150), (1, aI x1)] dX8_bitOf_68 rfl rfl rfl rfl ?_
    refine r_aload_n 70 1 dX8_bitOf_69 rfl rfl rfl ?_
    refine r_bipush 72 44 dX8_bitOf_70 rfl rfl ?_
    refine r_callvV 75 (Mc := MRd_sign P W) (o := 150) (as := [aI 44]) (st := []) dX8_bitOf_72 rfl (c_Rd_sign P W 44 G13) lkX8_182 (cmRd_sign P W) rfl rfl rfl (fun _ => dsC_150 P W _) nn150 rfl (by simp only [mF, mW, mN, DX, MRd_bitOf, MRd_sign]; omega) (by simp only [mF, mW, mN, DX, MRd_bitOf, MRd_sign]; omega) (fun _ => rfl) rfl (fun z14 G15 => ?_)
    refine r_aload_n 76 1 dX8_bitOf_75 rfl rfl rfl ?_
    refine r_callvV 79 (Mc := MRd_expr P W d) (o := 150) (as := []) (st := []) dX8_bitOf_76 rfl (hRf.1 G15) lkX8_211 (cmRd_expr P W d) rfl rfl rfl (fun _ => dsC_150 P W _) nn150 rfl (by simp only [mF, mW, mN, DX, MRd_bitOf, MRd_expr]; omega) (by simp only [mF, mW, mN, DX, MRd_bitOf, MRd_expr]; omega) (fun _ => rfl) rfl (fun z16 G17 => ?_)
    refine r_aload_n 80 1 dX8_bitOf_79 rfl rfl rfl ?_
    refine r_bipush 82 41 dX8_bitOf_80 rfl rfl ?_
    refine r_callvV 85 (Mc := MRd_sign P W) (o := 150) (as := [aI 41]) (st := []) dX8_bitOf_82 rfl (c_Rd_sign P W 41 G17) lkX8_182 (cmRd_sign P W) rfl rfl rfl (fun _ => dsC_150 P W _) nn150 rfl (by simp only [mF, mW, mN, DX, MRd_bitOf, MRd_sign]; omega) (by simp only [mF, mW, mN, DX, MRd_bitOf, MRd_sign]; omega) (fun _ => rfl) rfl (fun z18 G19 => ?_)
    refine r_aload_n 86 1 dX8_bitOf_85 rfl rfl rfl ?_
    refine r_dup 87 dX8_bitOf_86 rfl rfl ?_
    refine r_get 90 (aI (G19 150 3)) dX8_bitOf_87 fkX8_130 (fun _ => dsC_150 P W _) nn150 rfl rfl ?_
    refine r_iconst 91 1 dX8_bitOf_90 rfl rfl ?_
    refine r_isub 92 dX8_bitOf_91 rfl ?_
    refine r_putI 95 dX8_bitOf_92 fkX8_130 (fun _ => dsC_150 P W _) nn150 rfl rfl ?_
    refine ss_tk (fun G20 => ?_)
    refine r_aload_n 96 1 dX8_bitOf_95 rfl rfl rfl ?_
    refine r_get 99 (aR 110) dX8_bitOf_96 fkX8_19 (fun _ => dsC_150 P W _) nn150 rfl rfl ?_
    refine r_gets 102 35 dX8_bitOf_99 q1170 rfl rfl ?_
    refine r_iconst 103 0 dX8_bitOf_102 rfl rfl ?_
    refine r_iload_n 104 2 dX8_bitOf_103 rfl rfl rfl ?_
    refine r_iconst 105 0 dX8_bitOf_104 rfl rfl ?_
    refine r_callvI 108 (Mc := MCd_add P W) (o := 110) (as := [aR 35, aI 0, aI x1, aI 0]) (st := []) dX8_bitOf_105 rfl (c_Cd_add P W 35 0 x1 0 G20) lkX8_154 (cmCd_add P W) rfl rfl rfl (fun _ => dsC_110 P W _) nn110 rfl (by simp only [mF, mW, mN, DX, MRd_bitOf, MCd_add]; omega) (by simp only [mF, mW, mN, DX, MRd_bitOf, MCd_add]; omega) (fun _ => rfl) rfl (fun z21 G22 => ?_)
    refine r_istore_n 109 [(2, aI z21), (0, aR 150), (1, aI x1)] dX8_bitOf_108 rfl rfl rfl rfl ?_
    exact r_return dX8_bitOf_109 rfl
  · refine r_aload_n 29 1 dX8_bitOf_28 rfl rfl rfl ?_
    refine r_callvV 32 (Mc := MRd_bad P W) (o := 150) (as := []) (st := []) dX8_bitOf_29 rfl (c_Rd_bad P W G6) lkX8_100 (cmRd_bad P W) rfl rfl rfl (fun _ => dsC_150 P W _) nn150 rfl (by simp only [mF, mW, mN, DX, MRd_bitOf, MRd_bad]; omega) (by simp only [mF, mW, mN, DX, MRd_bitOf, MRd_bad]; omega) (fun _ => rfl) rfl (fun z23 G24 => ?_)
    exact r_return dX8_bitOf_32 rfl
theorem s_Rd_named (P W : Int) (d : Nat) (Rf : Nat → List Int → St → Option (Int × St)) (hRf : HRE P W d Rf) (x1 : Int) (G : St) : SS (MRd_named P W (d + 1)) some 0 [(0, aR 150), (1, aI x1)] [] G (Rd_named Rf x1 G) := by
  refine r_aload_n 1 0 dX8_named_0 rfl rfl rfl ?_
  refine r_callvI 4 (Mc := MRd_name P W) (o := 150) (as := []) (st := []) dX8_named_1 rfl (c_Rd_name P W G) lkX8_186 (cmRd_name P W) rfl rfl rfl (fun _ => dsC_150 P W _) nn150 rfl (by simp only [mF, mW, mN, DX, MRd_named, MRd_name]; omega) (by simp only [mF, mW, mN, DX, MRd_named, MRd_name]; omega) (fun _ => rfl) rfl (fun z1 G2 => ?_)
  refine r_istore_n 5 [(2, aI z1), (0, aR 150), (1, aI x1)] dX8_named_4 rfl rfl rfl rfl ?_
  refine r_aload_n 6 1 dX8_named_5 rfl rfl rfl ?_
  refine r_get 9 (aR 130) dX8_named_6 fkX8_27 (fun _ => dsC_150 P W _) nn150 rfl rfl ?_
  refine r_callvI 12 (Mc := MFt_is P W) (o := 130) (as := []) (st := []) dX8_named_9 rfl (c_Ft_is P W G2) lkX8_96 (cmFt_is P W) rfl rfl rfl (fun _ => dsC_130 P W _) nn130 rfl (by simp only [mF, mW, mN, DX, MRd_named, MFt_is]; omega) (by simp only [mF, mW, mN, DX, MRd_named, MFt_is]; omega) (fun _ => rfl) rfl (fun z3 G4 => ?_)
  refine r_if_eq 16 15 dX8_named_12 rfl rfl ?_ ?_
  · refine r_aload_n 17 1 dX8_named_16 rfl rfl rfl ?_
    refine r_bipush 19 91 dX8_named_17 rfl rfl ?_
    refine r_callvI 22 (Mc := MRd_isSign P W) (o := 150) (as := [aI 91]) (st := []) dX8_named_19 rfl (c_Rd_isSign P W 91 G4) lkX8_107 (cmRd_isSign P W) rfl rfl rfl (fun _ => dsC_150 P W _) nn150 rfl (by simp only [mF, mW, mN, DX, MRd_named, MRd_isSign]; omega) (by simp only [mF, mW, mN, DX, MRd_named, MRd_isSign]; omega) (fun _ => rfl) rfl (fun z5 G6 => ?_)
    refine r_if_eq 94 25 dX8_named_22 rfl rfl ?_ ?_
    · refine r_aload_n 95 1 dX8_named_94 rfl rfl rfl ?_
      refine r_iconst 96 0 dX8_named_95 rfl rfl ?_
      refine r_callvI 99 (Mc := MRd_look P W) (o := 150) (as := [aI 0]) (st := []) dX8_named_96 rfl (c_Rd_look P W 0 G6) lkX8_103 (cmRd_look P W) rfl rfl rfl (fun _ => dsC_150 P W _) nn150 rfl (by simp only [mF, mW, mN, DX, MRd_named, MRd_look]; omega) (by simp only [mF, mW, mN, DX, MRd_named, MRd_look]; omega) (fun _ => rfl) rfl (fun z7 G8 => ?_)
      refine r_bipush 101 40 dX8_named_99 rfl rfl ?_
      refine r_icmp_ne 113 104 dX8_named_101 rfl rfl ?_ ?_
      · refine r_aload_n 114 1 dX8_named_113 rfl rfl rfl ?_
        refine r_get 117 (aR 110) dX8_named_114 fkX8_19 (fun _ => dsC_150 P W _) nn150 rfl rfl ?_
        refine r_gets 120 25 dX8_named_117 q1190 rfl rfl ?_
        refine r_iload_n 121 0 dX8_named_120 rfl rfl rfl ?_
        refine r_iload_n 122 2 dX8_named_121 rfl rfl rfl ?_
        refine r_iconst 123 0 dX8_named_122 rfl rfl ?_
        refine r_callvI 126 (Mc := MCd_add P W) (o := 110) (as := [aR 25, aI z1, aI x1, aI 0]) (st := []) dX8_named_123 rfl (c_Cd_add P W 25 z1 x1 0 G8) lkX8_154 (cmCd_add P W) rfl rfl rfl (fun _ => dsC_110 P W _) nn110 rfl (by simp only [mF, mW, mN, DX, MRd_named, MCd_add]; omega) (by simp only [mF, mW, mN, DX, MRd_named, MCd_add]; omega) (fun _ => rfl) rfl (fun z9 G10 => ?_)
        refine r_istore_n 127 [(3, aI z9), (2, aI z1), (0, aR 150), (1, aI x1)] dX8_named_126 rfl rfl rfl rfl ?_
        exact r_return dX8_named_127 rfl
      · refine r_aload_n 105 1 dX8_named_104 rfl rfl rfl ?_
        refine r_iload_n 106 0 dX8_named_105 rfl rfl rfl ?_
        refine r_iload_n 107 2 dX8_named_106 rfl rfl rfl ?_
        refine r_callvV 110 (Mc := MRd_call P W d) (o := 150) (as := [aI z1, aI x1]) (st := []) dX8_named_107 rfl (hRf.2.2.2.2.2.2 z1 x1 G8) lkX8_430 (cmRd_call P W d) rfl rfl rfl (fun _ => dsC_150 P W _) nn150 rfl (by simp only [mF, mW, mN, DX, MRd_named, MRd_call]; omega) (by simp only [mF, mW, mN, DX, MRd_named, MRd_call]; omega) (fun _ => rfl) rfl (fun z11 G12 => ?_)
        refine r_goto 127 dX8_named_110 rfl ?_
        exact r_return dX8_named_127 rfl
    · refine r_aload_n 26 1 dX8_named_25 rfl rfl rfl ?_
      refine r_get 29 (aR 110) dX8_named_26 fkX8_19 (fun _ => dsC_150 P W _) nn150 rfl rfl ?_
      refine r_gets 32 26 dX8_named_29 q1176 rfl rfl ?_
      refine r_iload_n 33 0 dX8_named_32 rfl rfl rfl ?_
      refine r_iload_n 34 2 dX8_named_33 rfl rfl rfl ?_
      refine r_iconst 35 0 dX8_named_34 rfl rfl ?_
      refine r_callvI 38 (Mc := MCd_add P W) (o := 110) (as := [aR 26, aI z1, aI x1, aI 0]) (st := []) dX8_named_35 rfl (c_Cd_add P W 26 z1 x1 0 G6) lkX8_154 (cmCd_add P W) rfl rfl rfl (fun _ => dsC_110 P W _) nn110 rfl (by simp only [mF, mW, mN, DX, MRd_named, MCd_add]; omega) (by simp only [mF, mW, mN, DX, MRd_named, MCd_add]; omega) (fun _ => rfl) rfl (fun z13 G14 => ?_)
      refine r_istore_n 39 [(3, aI z13), (2, aI z1), (0, aR 150), (1, aI x1)] dX8_named_38 rfl rfl rfl rfl ?_
      refine r_aload_n 40 2 dX8_named_39 rfl rfl rfl ?_
      refine r_aload_n 41 2 dX8_named_40 rfl rfl rfl ?_
      refine r_get 44 (aI (G14 150 2)) dX8_named_41 fkX8_31 (fun _ => dsC_150 P W _) nn150 rfl rfl ?_
      refine r_callvV 47 (Mc := MRd_enter P W) (o := 150) (as := [aI (G14 150 2)]) (st := []) dX8_named_44 rfl (c_Rd_enter P W (G14 150 2) G14) lkX8_254 (cmRd_enter P W) rfl rfl rfl (fun _ => dsC_150 P W _) nn150 rfl (by simp only [mF, mW, mN, DX, MRd_named, MRd_enter]; omega) (by simp only [mF, mW, mN, DX, MRd_named, MRd_enter]; omega) (fun _ => rfl) rfl (fun z15 G16 => ?_)
      refine r_aload_n 48 2 dX8_named_47 rfl rfl rfl ?_
      refine r_dup 49 dX8_named_48 rfl rfl ?_
      refine r_get 52 (aI (G16 150 2)) dX8_named_49 fkX8_31 (fun _ => dsC_150 P W _) nn150 rfl rfl ?_
      refine r_iconst 53 1 dX8_named_52 rfl rfl ?_
      refine r_iadd 54 dX8_named_53 rfl ?_
      refine r_putI 57 dX8_named_54 fkX8_31 (fun _ => dsC_150 P W _) nn150 rfl rfl ?_
      refine ss_tk (fun G17 => ?_)
      refine r_aload_n 58 2 dX8_named_57 rfl rfl rfl ?_
      refine r_callvV 61 (Mc := MRd_expr P W d) (o := 150) (as := []) (st := []) dX8_named_58 rfl (hRf.1 G17) lkX8_211 (cmRd_expr P W d) rfl rfl rfl (fun _ => dsC_150 P W _) nn150 rfl (by simp only [mF, mW, mN, DX, MRd_named, MRd_expr]; omega) (by simp only [mF, mW, mN, DX, MRd_named, MRd_expr]; omega) (fun _ => rfl) rfl (fun z18 G19 => ?_)
      refine r_aload_n 62 2 dX8_named_61 rfl rfl rfl ?_
      refine r_bipush 64 93 dX8_named_62 rfl rfl ?_
      refine r_callvV 67 (Mc := MRd_sign P W) (o := 150) (as := [aI 93]) (st := []) dX8_named_64 rfl (c_Rd_sign P W 93 G19) lkX8_182 (cmRd_sign P W) rfl rfl rfl (fun _ => dsC_150 P W _) nn150 rfl (by simp only [mF, mW, mN, DX, MRd_named, MRd_sign]; omega) (by simp only [mF, mW, mN, DX, MRd_named, MRd_sign]; omega) (fun _ => rfl) rfl (fun z20 G21 => ?_)
      refine r_aload_n 68 2 dX8_named_67 rfl rfl rfl ?_
      refine r_dup 69 dX8_named_68 rfl rfl ?_
      refine r_get 72 (aI (G21 150 3)) dX8_named_69 fkX8_130 (fun _ => dsC_150 P W _) nn150 rfl rfl ?_
      refine r_iconst 73 1 dX8_named_72 rfl rfl ?_
      refine r_isub 74 dX8_named_73 rfl ?_
      refine r_putI 77 dX8_named_74 fkX8_130 (fun _ => dsC_150 P W _) nn150 rfl rfl ?_
      refine ss_tk (fun G22 => ?_)
      refine r_aload_n 78 2 dX8_named_77 rfl rfl rfl ?_
      refine r_get 81 (aR 110) dX8_named_78 fkX8_19 (fun _ => dsC_150 P W _) nn150 rfl rfl ?_
      refine r_gets 84 27 dX8_named_81 q1178 rfl rfl ?_
      refine r_iload_n 85 1 dX8_named_84 rfl rfl rfl ?_
      refine r_iload_n 86 3 dX8_named_85 rfl rfl rfl ?_
      refine r_iconst 87 0 dX8_named_86 rfl rfl ?_
      refine r_callvI 90 (Mc := MCd_add P W) (o := 110) (as := [aR 27, aI z1, aI x1, aI 0]) (st := []) dX8_named_87 rfl (c_Cd_add P W 27 z1 x1 0 G22) lkX8_154 (cmCd_add P W) rfl rfl rfl (fun _ => dsC_110 P W _) nn110 rfl (by simp only [mF, mW, mN, DX, MRd_named, MCd_add]; omega) (by simp only [mF, mW, mN, DX, MRd_named, MCd_add]; omega) (fun _ => rfl) rfl (fun z23 G24 => ?_)
      refine r_istore_n 91 [(3, aI z23), (2, aI z1), (0, aR 150), (1, aI x1)] dX8_named_90 rfl rfl rfl rfl ?_
      refine r_goto 127 dX8_named_91 rfl ?_
      exact r_return dX8_named_127 rfl
  · exact r_return dX8_named_15 rfl
theorem s_Rd_call_b133 (P W : Int) (d : Nat) (Rf : Nat → List Int → St → Option (Int × St)) (hRf : HRE P W d Rf) (x1 : Int) (x2 : Int) (x3 : Int) (x4 : Int) (G : St) : SS (MRd_call P W (d + 1)) some 133 [(0, aR 150), (1, aI x1), (2, aI x2), (3, aI x3), (4, aI x4)] [] G (Rd_call_b133 Rf x1 x2 x3 x4 G) := by
  refine r_aload_n 134 0 dX8_call_133 rfl rfl rfl ?_
  refine r_bipush 136 41 dX8_call_134 rfl rfl ?_
  refine r_callvV 139 (Mc := MRd_sign P W) (o := 150) (as := [aI 41]) (st := []) dX8_call_136 rfl (c_Rd_sign P W 41 G) lkX8_182 (cmRd_sign P W) rfl rfl rfl (fun _ => dsC_150 P W _) nn150 rfl (by simp only [mF, mW, mN, DX, MRd_call, MRd_sign]; omega) (by simp only [mF, mW, mN, DX, MRd_call, MRd_sign]; omega) (fun _ => rfl) rfl (fun z8 G9 => ?_)
  refine r_aload_n 140 0 dX8_call_139 rfl rfl rfl ?_
  refine r_dup 141 dX8_call_140 rfl rfl ?_
  refine r_get 144 (aI (G9 150 3)) dX8_call_141 fkX8_130 (fun _ => dsC_150 P W _) nn150 rfl rfl ?_
  refine r_iconst 145 1 dX8_call_144 rfl rfl ?_
  refine r_isub 146 dX8_call_145 rfl ?_
  refine r_putI 149 dX8_call_146 fkX8_130 (fun _ => dsC_150 P W _) nn150 rfl rfl ?_
  refine ss_tk (fun G10 => ?_)
  refine r_aload_n 150 0 dX8_call_149 rfl rfl rfl ?_
  refine r_get 153 (aR 110) dX8_call_150 fkX8_19 (fun _ => dsC_150 P W _) nn150 rfl rfl ?_
  refine r_get 156 (aR 114) dX8_call_153 fkX8_217 (fun _ => dsC_110 P W _) nn110 rfl rfl ?_
  refine r_iload_n 157 3 dX8_call_156 rfl rfl rfl ?_
  refine r_iload 159 4 dX8_call_157 rfl rfl ?_
  refine r_iast 160 dX8_call_159 (fun _ _ _ => dsC_114 P W _) (fun _ _ => nn114) rfl ?_
  refine ss_tk (fun G11 => ?_)
  refine r_aload_n 161 0 dX8_call_160 rfl rfl rfl ?_
  refine r_get 164 (aR 110) dX8_call_161 fkX8_19 (fun _ => dsC_150 P W _) nn150 rfl rfl ?_
  refine r_gets 167 30 dX8_call_164 q1188 rfl rfl ?_
  refine r_iload_n 168 1 dX8_call_167 rfl rfl rfl ?_
  refine r_iload_n 169 2 dX8_call_168 rfl rfl rfl ?_
  refine r_iload 171 4 dX8_call_169 rfl rfl ?_
  refine r_callvI 174 (Mc := MCd_add P W) (o := 110) (as := [aR 30, aI x1, aI x2, aI x4]) (st := []) dX8_call_171 rfl (c_Cd_add P W 30 x1 x2 x4 G11) lkX8_154 (cmCd_add P W) rfl rfl rfl (fun _ => dsC_110 P W _) nn110 rfl (by simp only [mF, mW, mN, DX, MRd_call, MCd_add]; omega) (by simp only [mF, mW, mN, DX, MRd_call, MCd_add]; omega) (fun _ => rfl) rfl (fun z12 G13 => ?_)
  refine r_istore 176 [(6, aI z12), (0, aR 150), (1, aI x1), (2, aI x2), (3, aI x3), (4, aI x4)] dX8_call_174 rfl rfl rfl ?_
  exact r_return dX8_call_176 rfl
theorem s_Rd_call_b113 (P W : Int) (d : Nat) (Rf : Nat → List Int → St → Option (Int × St)) (hRf : HRE P W d Rf) (x1 : Int) (x2 : Int) (x3 : Int) (X51 : Int × Int × St → Option (Int × St)) (hX51 : ∀ s, So (MRd_call P W (d + 1)) 51 [(0, aR 150), (1, aI x1), (2, aI x2), (3, aI x3), (4, aI (s.1)), (5, aI (s.2.1))] [] s.2.2 (X51 s)) (x4 : Int) (s0 : Int) (G : St) : SS (MRd_call P W (d + 1)) (lk X51 some) 113 [(0, aR 150), (1, aI x1), (2, aI x2), (3, aI x3), (4, aI x4)] [aI s0] G (Rd_call_b113 Rf x1 x2 x3 x4 s0 G) := by
  refine r_istore 115 [(5, aI s0), (0, aR 150), (1, aI x1), (2, aI x2), (3, aI x3), (4, aI x4)] dX8_call_113 rfl rfl rfl ?_
  refine r_iload 117 0 dX8_call_115 rfl rfl ?_
  refine r_if_eq 130 120 dX8_call_117 rfl rfl ?_ ?_
  · refine r_goto 51 dX8_call_130 rfl ?_
    refine r_to [1, 2, 3, 4, 5, 0] [(0, aR 150), (1, aI x1), (2, aI x2), (3, aI x3), (4, aI x4), (5, aI s0)] rfl ?_
    exact SS.back (hX51 (x4, s0, G))
  · refine r_aload_n 121 1 dX8_call_120 rfl rfl rfl ?_
    refine r_dup 122 dX8_call_121 rfl rfl ?_
    refine r_get 125 (aI (G 150 2)) dX8_call_122 fkX8_31 (fun _ => dsC_150 P W _) nn150 rfl rfl ?_
    refine r_iconst 126 1 dX8_call_125 rfl rfl ?_
    refine r_iadd 127 dX8_call_126 rfl ?_
    refine r_putI 130 dX8_call_127 fkX8_31 (fun _ => dsC_150 P W _) nn150 rfl rfl ?_
    refine ss_tk (fun G22 => ?_)
    refine r_goto 51 dX8_call_130 rfl ?_
    refine r_to [1, 2, 3, 4, 5, 0] [(0, aR 150), (1, aI x1), (2, aI x2), (3, aI x3), (4, aI x4), (5, aI s0)] rfl ?_
    exact SS.back (hX51 (x4, s0, G22))
theorem s_Rd_call_s51 (P W : Int) (d : Nat) (Rf : Nat → List Int → St → Option (Int × St)) (hRf : HRE P W d Rf) (x1 : Int) (x2 : Int) (x3 : Int) (X51 : Int × Int × St → Option (Int × St)) (hX51 : ∀ s, So (MRd_call P W (d + 1)) 51 [(0, aR 150), (1, aI x1), (2, aI x2), (3, aI x3), (4, aI (s.1)), (5, aI (s.2.1))] [] s.2.2 (X51 s)) (x4 : Int) (x5 : Int) (G : St) : SS (MRd_call P W (d + 1)) (lk X51 some) 51 [(0, aR 150), (1, aI x1), (2, aI x2), (3, aI x3), (4, aI x4), (5, aI x5)] [] G (Rd_call_s51 Rf x1 x2 x3 x4 x5 G) := by
  refine r_iload 53 5 dX8_call_51 rfl rfl ?_
  refine r_if_eq 133 56 dX8_call_53 rfl rfl ?_ ?_
  · refine SS.ex ?_
    refine r_to [0, 1, 2, 3, 4] [(0, aR 150), (1, aI x1), (2, aI x2), (3, aI x3), (4, aI x4)] rfl ?_
    exact s_Rd_call_b133 P W d Rf hRf x1 x2 x3 x4 G
  · refine r_aload_n 57 0 dX8_call_56 rfl rfl rfl ?_
    refine r_get 60 (aR 130) dX8_call_57 fkX8_27 (fun _ => dsC_150 P W _) nn150 rfl rfl ?_
    refine r_callvI 63 (Mc := MFt_is P W) (o := 130) (as := []) (st := []) dX8_call_60 rfl (c_Ft_is P W G) lkX8_96 (cmFt_is P W) rfl rfl rfl (fun _ => dsC_130 P W _) nn130 rfl (by simp only [mF, mW, mN, DX, MRd_call, MFt_is]; omega) (by simp only [mF, mW, mN, DX, MRd_call, MFt_is]; omega) (fun _ => rfl) rfl (fun z14 G15 => ?_)
    refine r_if_ne 133 66 dX8_call_63 rfl rfl ?_ ?_
    · refine SS.ex ?_
      refine r_to [0, 1, 2, 3, 4] [(0, aR 150), (1, aI x1), (2, aI x2), (3, aI x3), (4, aI x4)] rfl ?_
      exact s_Rd_call_b133 P W d Rf hRf x1 x2 x3 x4 G15
    · refine r_aload_n 67 0 dX8_call_66 rfl rfl rfl ?_
      refine r_callvV 70 (Mc := MRd_expr P W d) (o := 150) (as := []) (st := []) dX8_call_67 rfl (hRf.1 G15) lkX8_211 (cmRd_expr P W d) rfl rfl rfl (fun _ => dsC_150 P W _) nn150 rfl (by simp only [mF, mW, mN, DX, MRd_call, MRd_expr]; omega) (by simp only [mF, mW, mN, DX, MRd_call, MRd_expr]; omega) (fun _ => rfl) rfl (fun z16 G17 => ?_)
      refine r_aload_n 71 0 dX8_call_70 rfl rfl rfl ?_
      refine r_get 74 (aR 110) dX8_call_71 fkX8_19 (fun _ => dsC_150 P W _) nn150 rfl rfl ?_
      refine r_gets 77 29 dX8_call_74 q1186 rfl rfl ?_
      refine r_iload_n 78 1 dX8_call_77 rfl rfl rfl ?_
      refine r_iload_n 79 2 dX8_call_78 rfl rfl rfl ?_
      refine r_iload 81 4 dX8_call_79 rfl rfl ?_
      refine r_callvI 84 (Mc := MCd_add P W) (o := 110) (as := [aR 29, aI x1, aI x2, aI x4]) (st := []) dX8_call_81 rfl (c_Cd_add P W 29 x1 x2 x4 G17) lkX8_154 (cmCd_add P W) rfl rfl rfl (fun _ => dsC_110 P W _) nn110 rfl (by simp only [mF, mW, mN, DX, MRd_call, MCd_add]; omega) (by simp only [mF, mW, mN, DX, MRd_call, MCd_add]; omega) (fun _ => rfl) rfl (fun z18 G19 => ?_)
      refine r_istore 86 [(6, aI z18), (0, aR 150), (1, aI x1), (2, aI x2), (3, aI x3), (4, aI x4), (5, aI x5)] dX8_call_84 rfl rfl rfl ?_
      refine r_iinc 89 [(4, aI (x4 + 1)), (6, aI z18), (0, aR 150), (1, aI x1), (2, aI x2), (3, aI x3), (5, aI x5)] 5 dX8_call_86 rfl rfl rfl rfl ?_
      refine r_aload_n 90 2 dX8_call_89 rfl rfl rfl ?_
      refine r_get 93 (aR 130) dX8_call_90 fkX8_27 (fun _ => dsC_150 P W _) nn150 rfl rfl ?_
      refine r_callvI 96 (Mc := MFt_is P W) (o := 130) (as := []) (st := []) dX8_call_93 rfl (c_Ft_is P W G19) lkX8_96 (cmFt_is P W) rfl rfl rfl (fun _ => dsC_130 P W _) nn130 rfl (by simp only [mF, mW, mN, DX, MRd_call, MFt_is]; omega) (by simp only [mF, mW, mN, DX, MRd_call, MFt_is]; omega) (fun _ => rfl) rfl (fun z20 G21 => ?_)
      refine r_if_ne 112 99 dX8_call_96 rfl rfl ?_ ?_
      · refine r_iconst 113 0 dX8_call_112 rfl rfl ?_
        refine r_to [2, 3, 4, 5, 0] [(0, aR 150), (1, aI x1), (2, aI x2), (3, aI x3), (4, aI (x4 + 1))] rfl ?_
        exact s_Rd_call_b113 P W d Rf hRf x1 x2 x3 X51 hX51 (x4 + 1) 0 G21
      · refine r_aload_n 100 2 dX8_call_99 rfl rfl rfl ?_
        refine r_bipush 102 44 dX8_call_100 rfl rfl ?_
        refine r_callvI 105 (Mc := MRd_isSign P W) (o := 150) (as := [aI 44]) (st := []) dX8_call_102 rfl (c_Rd_isSign P W 44 G21) lkX8_107 (cmRd_isSign P W) rfl rfl rfl (fun _ => dsC_150 P W _) nn150 rfl (by simp only [mF, mW, mN, DX, MRd_call, MRd_isSign]; omega) (by simp only [mF, mW, mN, DX, MRd_call, MRd_isSign]; omega) (fun _ => rfl) rfl (fun z23 G24 => ?_)
        refine SS.phi (fun VV_ => Rd_call_b113 Rf x1 x2 x3 (x4 + 1) VV_ G24) ?_
        refine r_if_eq 112 108 dX8_call_105 rfl rfl ?_ ?_
        · refine r_iconst 113 0 dX8_call_112 rfl rfl ?_
          refine r_to [2, 3, 4, 5, 0] [(0, aR 150), (1, aI x1), (2, aI x2), (3, aI x3), (4, aI (x4 + 1))] rfl ?_
          exact s_Rd_call_b113 P W d Rf hRf x1 x2 x3 X51 hX51 (x4 + 1) 0 G24
        · refine r_iconst 109 1 dX8_call_108 rfl rfl ?_
          refine r_goto 113 dX8_call_109 rfl ?_
          refine r_to [2, 3, 4, 5, 0] [(0, aR 150), (1, aI x1), (2, aI x2), (3, aI x3), (4, aI (x4 + 1))] rfl ?_
          exact s_Rd_call_b113 P W d Rf hRf x1 x2 x3 X51 hX51 (x4 + 1) 1 G24
theorem sl_Rd_call_51 (P W : Int) (d : Nat) (Rf : Nat → List Int → St → Option (Int × St)) (hRf : HRE P W d Rf) (x1 : Int) (x2 : Int) (x3 : Int) (x4 : Int) (x5 : Int) (G : St) : SS (MRd_call P W (d + 1)) some 51 [(0, aR 150), (1, aI x1), (2, aI x2), (3, aI x3), (4, aI x4), (5, aI x5)] [] G (Rd_call_l51 Rf x1 x2 x3 x4 x5 G) := by
  exact SS.loop (σ := Int × Int × St) (fun s => [(0, aR 150), (1, aI x1), (2, aI x2), (3, aI x3), (4, aI (s.1)), (5, aI (s.2.1))]) (fun s => s.2.2) (fun s => Rd_call_s51 Rf x1 x2 x3 s.1 s.2.1 s.2.2) (fun X51 hX51 s => s_Rd_call_s51 P W d Rf hRf x1 x2 x3  X51 hX51 s.1 s.2.1 s.2.2) (x4, x5, G)
theorem s_Rd_call_b49 (P W : Int) (d : Nat) (Rf : Nat → List Int → St → Option (Int × St)) (hRf : HRE P W d Rf) (x1 : Int) (x2 : Int) (x3 : Int) (x4 : Int) (s0 : Int) (G : St) : SS (MRd_call P W (d + 1)) some 49 [(0, aR 150), (1, aI x1), (2, aI x2), (3, aI x3), (4, aI x4)] [aI s0] G (Rd_call_b49 Rf x1 x2 x3 x4 s0 G) := by
  refine r_istore 51 [(5, aI s0), (0, aR 150), (1, aI x1), (2, aI x2), (3, aI x3), (4, aI x4)] dX8_call_49 rfl rfl rfl ?_
  refine r_to [1, 2, 3, 4, 5, 0] [(0, aR 150), (1, aI x1), (2, aI x2), (3, aI x3), (4, aI x4), (5, aI s0)] rfl ?_
  exact sl_Rd_call_51 P W d Rf hRf x1 x2 x3 x4 s0 G
theorem s_Rd_call (P W : Int) (d : Nat) (Rf : Nat → List Int → St → Option (Int × St)) (hRf : HRE P W d Rf) (x1 : Int) (x2 : Int) (G : St) : SS (MRd_call P W (d + 1)) some 0 [(0, aR 150), (1, aI x1), (2, aI x2)] [] G (Rd_call Rf x1 x2 G) := by
  refine r_aload_n 1 0 dX8_call_0 rfl rfl rfl ?_
  refine r_get 4 (aR 110) dX8_call_1 fkX8_19 (fun _ => dsC_150 P W _) nn150 rfl rfl ?_
  refine r_gets 7 28 dX8_call_4 q1184 rfl rfl ?_
  refine r_iload_n 8 1 dX8_call_7 rfl rfl rfl ?_
  refine r_iload_n 9 2 dX8_call_8 rfl rfl rfl ?_
  refine r_iconst 10 0 dX8_call_9 rfl rfl ?_
  refine r_callvI 13 (Mc := MCd_add P W) (o := 110) (as := [aR 28, aI x1, aI x2, aI 0]) (st := []) dX8_call_10 rfl (c_Cd_add P W 28 x1 x2 0 G) lkX8_154 (cmCd_add P W) rfl rfl rfl (fun _ => dsC_110 P W _) nn110 rfl (by simp only [mF, mW, mN, DX, MRd_call, MCd_add]; omega) (by simp only [mF, mW, mN, DX, MRd_call, MCd_add]; omega) (fun _ => rfl) rfl (fun z1 G2 => ?_)
  refine r_istore_n 14 [(3, aI z1), (0, aR 150), (1, aI x1), (2, aI x2)] dX8_call_13 rfl rfl rfl rfl ?_
  refine r_aload_n 15 1 dX8_call_14 rfl rfl rfl ?_
  refine r_aload_n 16 1 dX8_call_15 rfl rfl rfl ?_
  refine r_get 19 (aI (G2 150 2)) dX8_call_16 fkX8_31 (fun _ => dsC_150 P W _) nn150 rfl rfl ?_
  refine r_callvV 22 (Mc := MRd_enter P W) (o := 150) (as := [aI (G2 150 2)]) (st := []) dX8_call_19 rfl (c_Rd_enter P W (G2 150 2) G2) lkX8_254 (cmRd_enter P W) rfl rfl rfl (fun _ => dsC_150 P W _) nn150 rfl (by simp only [mF, mW, mN, DX, MRd_call, MRd_enter]; omega) (by simp only [mF, mW, mN, DX, MRd_call, MRd_enter]; omega) (fun _ => rfl) rfl (fun z3 G4 => ?_)
  refine r_aload_n 23 1 dX8_call_22 rfl rfl rfl ?_
  refine r_dup 24 dX8_call_23 rfl rfl ?_
  refine r_get 27 (aI (G4 150 2)) dX8_call_24 fkX8_31 (fun _ => dsC_150 P W _) nn150 rfl rfl ?_
  refine r_iconst 28 1 dX8_call_27 rfl rfl ?_
  refine r_iadd 29 dX8_call_28 rfl ?_
  refine r_putI 32 dX8_call_29 fkX8_31 (fun _ => dsC_150 P W _) nn150 rfl rfl ?_
  refine ss_tk (fun G5 => ?_)
  refine r_iconst 33 0 dX8_call_32 rfl rfl ?_
  refine r_istore 35 [(4, aI 0), (3, aI z1), (0, aR 150), (1, aI x1), (2, aI x2)] dX8_call_33 rfl rfl rfl ?_
  refine r_aload_n 36 2 dX8_call_35 rfl rfl rfl ?_
  refine r_bipush 38 41 dX8_call_36 rfl rfl ?_
  refine r_callvI 41 (Mc := MRd_isSign P W) (o := 150) (as := [aI 41]) (st := []) dX8_call_38 rfl (c_Rd_isSign P W 41 G5) lkX8_107 (cmRd_isSign P W) rfl rfl rfl (fun _ => dsC_150 P W _) nn150 rfl (by simp only [mF, mW, mN, DX, MRd_call, MRd_isSign]; omega) (by simp only [mF, mW, mN, DX, MRd_call, MRd_isSign]; omega) (fun _ => rfl) rfl (fun z6 G7 => ?_)
  refine SS.phi (fun VV_ => Rd_call_b49 Rf x1 x2 z1 0 VV_ G7) ?_
  refine r_if_ne 48 44 dX8_call_41 rfl rfl ?_ ?_
  · refine r_iconst 49 0 dX8_call_48 rfl rfl ?_
    refine r_to [2, 3, 4, 1, 0] [(0, aR 150), (1, aI x1), (2, aI x2), (3, aI z1), (4, aI 0)] rfl ?_
    exact s_Rd_call_b49 P W d Rf hRf x1 x2 z1 0 0 G7
  · refine r_iconst 45 1 dX8_call_44 rfl rfl ?_
    refine r_goto 49 dX8_call_45 rfl ?_
    refine r_to [2, 3, 4, 1, 0] [(0, aR 150), (1, aI x1), (2, aI x2), (3, aI z1), (4, aI 0)] rfl ?_
    exact s_Rd_call_b49 P W d Rf hRf x1 x2 z1 0 1 G7
theorem cRE (P W : Int) : ∀ d, HRE P W d (RE d)
  | 0 => ⟨(fun  _ _ _ _ _ ho => nomatch (show (none : Option (Int × St)) = some _ from ho)), (fun _ _ _ _ _ _ ho => nomatch (show (none : Option (Int × St)) = some _ from ho)), (fun  _ _ _ _ _ ho => nomatch (show (none : Option (Int × St)) = some _ from ho)), (fun  _ _ _ _ _ ho => nomatch (show (none : Option (Int × St)) = some _ from ho)), (fun _ _ _ _ _ _ ho => nomatch (show (none : Option (Int × St)) = some _ from ho)), (fun _ _ _ _ _ _ ho => nomatch (show (none : Option (Int × St)) = some _ from ho)), (fun _ _ _ _ _ _ _ ho => nomatch (show (none : Option (Int × St)) = some _ from ho))⟩
  | d + 1 => ⟨fun  G => MG.of (M := MRd_expr P W (d + 1)) plX8 (Nat.le_of_ble_eq_true rfl) (s_Rd_expr P W d (RE d) (cRE P W d)  G), fun x1 G => MG.of (M := MRd_row P W (d + 1)) plX8 (Nat.le_of_ble_eq_true rfl) (s_Rd_row P W d (RE d) (cRE P W d) x1 G), fun  G => MG.of (M := MRd_factor P W (d + 1)) plX8 (Nat.le_of_ble_eq_true rfl) (s_Rd_factor P W d (RE d) (cRE P W d)  G), fun  G => MG.of (M := MRd_around P W (d + 1)) plX8 (Nat.le_of_ble_eq_true rfl) (s_Rd_around P W d (RE d) (cRE P W d)  G), fun x1 G => MG.of (M := MRd_bitOf P W (d + 1)) plX8 (Nat.le_of_ble_eq_true rfl) (s_Rd_bitOf P W d (RE d) (cRE P W d) x1 G), fun x1 G => MG.of (M := MRd_named P W (d + 1)) plX8 (Nat.le_of_ble_eq_true rfl) (s_Rd_named P W d (RE d) (cRE P W d) x1 G), fun x1 x2 G => MG.of (M := MRd_call P W (d + 1)) plX8 (Nat.le_of_ble_eq_true rfl) (s_Rd_call P W d (RE d) (cRE P W d) x1 x2 G)⟩
theorem c_Rd_expr (P W : Int) (d : Nat) (G : St) : MG (MRd_expr P W d) [aR 150] G (RE d 0 [] G) := (cRE P W d).1 G
theorem c_Rd_row (P W : Int) (d : Nat) (x1 : Int) (G : St) : MG (MRd_row P W d) [aR 150, aI x1] G (RE d 1 [x1] G) := (cRE P W d).2.1 x1 G
theorem c_Rd_factor (P W : Int) (d : Nat) (G : St) : MG (MRd_factor P W d) [aR 150] G (RE d 2 [] G) := (cRE P W d).2.2.1 G
theorem c_Rd_around (P W : Int) (d : Nat) (G : St) : MG (MRd_around P W d) [aR 150] G (RE d 3 [] G) := (cRE P W d).2.2.2.1 G
theorem c_Rd_bitOf (P W : Int) (d : Nat) (x1 : Int) (G : St) : MG (MRd_bitOf P W d) [aR 150, aI x1] G (RE d 4 [x1] G) := (cRE P W d).2.2.2.2.1 x1 G
theorem c_Rd_named (P W : Int) (d : Nat) (x1 : Int) (G : St) : MG (MRd_named P W d) [aR 150, aI x1] G (RE d 5 [x1] G) := (cRE P W d).2.2.2.2.2.1 x1 G
theorem c_Rd_call (P W : Int) (d : Nat) (x1 : Int) (x2 : Int) (G : St) : MG (MRd_call P W d) [aR 150, aI x1, aI x2] G (RE d 6 [x1, x2] G) := (cRE P W d).2.2.2.2.2.2 x1 x2 G
theorem s_Rd_sort_b42 (P W : Int) (x1 : Int) (G : St) : SS (MRd_sort P W) some 42 [(0, aR 150), (1, aI x1)] [] G (Rd_sort_b42 x1 G) := by
  refine r_aload_n 43 0 dX8_sort_42 rfl rfl rfl ?_
  refine r_dup 44 dX8_sort_43 rfl rfl ?_
  refine r_get 47 (aI (G 150 2)) dX8_sort_44 fkX8_31 (fun _ => dsC_150 P W _) nn150 rfl rfl ?_
  refine r_iconst 48 3 dX8_sort_47 rfl rfl ?_
  refine r_iadd 49 dX8_sort_48 rfl ?_
  refine r_putI 52 dX8_sort_49 fkX8_31 (fun _ => dsC_150 P W _) nn150 rfl rfl ?_
  refine ss_tk (fun G7 => ?_)
  refine r_iload_n 53 1 dX8_sort_52 rfl rfl rfl ?_
  refine SS.phi (fun VV_ => some (VV_, G7)) ?_
  refine r_if_eq 60 56 dX8_sort_53 rfl rfl ?_ ?_
  · refine r_iconst 61 0 dX8_sort_60 rfl rfl ?_
    exact r_ireturn dX8_sort_61 rfl
  · refine r_iconst 57 1 dX8_sort_56 rfl rfl ?_
    refine r_goto 61 dX8_sort_57 rfl ?_
    exact r_ireturn dX8_sort_61 rfl
theorem s_Rd_sort (P W : Int) (G : St) : SS (MRd_sort P W) some 0 [(0, aR 150)] [] G (Rd_sort G) := by
  refine r_aload_n 1 0 dX8_sort_0 rfl rfl rfl ?_
  refine r_callvV 4 (Mc := MRd_skip P W) (o := 150) (as := []) (st := []) dX8_sort_1 rfl (c_Rd_skip P W G) lkX8_93 (cmRd_skip P W) rfl rfl rfl (fun _ => dsC_150 P W _) nn150 rfl (Nat.le_of_ble_eq_true rfl) (Nat.le_of_ble_eq_true rfl) (fun _ => rfl) rfl (fun z1 G2 => ?_)
  refine r_aload_n 5 0 dX8_sort_4 rfl rfl rfl ?_
  refine r_get 8 (aR 130) dX8_sort_5 fkX8_27 (fun _ => dsC_150 P W _) nn150 rfl rfl ?_
  refine r_callvI 11 (Mc := MFt_is P W) (o := 130) (as := []) (st := []) dX8_sort_8 rfl (c_Ft_is P W G2) lkX8_96 (cmFt_is P W) rfl rfl rfl (fun _ => dsC_130 P W _) nn130 rfl (Nat.le_of_ble_eq_true rfl) (Nat.le_of_ble_eq_true rfl) (fun _ => rfl) rfl (fun z3 G4 => ?_)
  refine r_if_eq 16 14 dX8_sort_11 rfl rfl ?_ ?_
  · refine r_aload_n 17 0 dX8_sort_16 rfl rfl rfl ?_
    refine r_ldcs 19 10 dX8_sort_17 q1047 rfl rfl rfl ?_
    refine r_callvI 22 (Mc := MRd_isWord P W) (o := 150) (as := [aR 80]) (st := []) dX8_sort_19 rfl (c_Rd_isWord P W 80 G4) lkX8_65 (cmRd_isWord P W) rfl rfl rfl (fun _ => dsC_150 P W _) nn150 rfl (Nat.le_of_ble_eq_true rfl) (Nat.le_of_ble_eq_true rfl) (fun _ => rfl) rfl (fun z5 G6 => ?_)
    refine r_istore_n 23 [(1, aI z5), (0, aR 150)] dX8_sort_22 rfl rfl rfl rfl ?_
    refine r_iload_n 24 0 dX8_sort_23 rfl rfl rfl ?_
    refine r_if_ne 42 27 dX8_sort_24 rfl rfl ?_ ?_
    · refine r_to [1, 0] [(0, aR 150), (1, aI z5)] rfl ?_
      exact s_Rd_sort_b42 P W z5 G6
    · refine r_aload_n 28 1 dX8_sort_27 rfl rfl rfl ?_
      refine r_ldcs 30 9 dX8_sort_28 q1046 rfl rfl rfl ?_
      refine r_callvI 33 (Mc := MRd_isWord P W) (o := 150) (as := [aR 79]) (st := []) dX8_sort_30 rfl (c_Rd_isWord P W 79 G6) lkX8_65 (cmRd_isWord P W) rfl rfl rfl (fun _ => dsC_150 P W _) nn150 rfl (Nat.le_of_ble_eq_true rfl) (Nat.le_of_ble_eq_true rfl) (fun _ => rfl) rfl (fun z8 G9 => ?_)
      refine r_if_ne 42 36 dX8_sort_33 rfl rfl ?_ ?_
      · refine r_to [1, 0] [(0, aR 150), (1, aI z5)] rfl ?_
        exact s_Rd_sort_b42 P W z5 G9
      · refine r_aload_n 37 1 dX8_sort_36 rfl rfl rfl ?_
        refine r_callvV 40 (Mc := MRd_bad P W) (o := 150) (as := []) (st := []) dX8_sort_37 rfl (c_Rd_bad P W G9) lkX8_100 (cmRd_bad P W) rfl rfl rfl (fun _ => dsC_150 P W _) nn150 rfl (Nat.le_of_ble_eq_true rfl) (Nat.le_of_ble_eq_true rfl) (fun _ => rfl) rfl (fun z10 G11 => ?_)
        refine r_iconst 41 0 dX8_sort_40 rfl rfl ?_
        exact r_ireturn dX8_sort_41 rfl
  · refine r_iconst 15 0 dX8_sort_14 rfl rfl ?_
    exact r_ireturn dX8_sort_15 rfl
theorem c_Rd_sort (P W : Int) (G : St) : MG (MRd_sort P W) [aR 150] G (Rd_sort G) := MG.of plX8 (Nat.le_of_ble_eq_true rfl) (s_Rd_sort P W G)
theorem s_Rd_params_b92 (P W : Int) (G : St) : SS (MRd_params P W) some 92 [(0, aR 150)] [] G (Rd_params_b92 G) := by
  refine r_aload_n 93 0 dX8_params_92 rfl rfl rfl ?_
  refine r_bipush 95 41 dX8_params_93 rfl rfl ?_
  refine r_callvV 98 (Mc := MRd_sign P W) (o := 150) (as := [aI 41]) (st := []) dX8_params_95 rfl (c_Rd_sign P W 41 G) lkX8_182 (cmRd_sign P W) rfl rfl rfl (fun _ => dsC_150 P W _) nn150 rfl (Nat.le_of_ble_eq_true rfl) (Nat.le_of_ble_eq_true rfl) (fun _ => rfl) rfl (fun z1 G2 => ?_)
  exact r_return dX8_params_98 rfl
theorem s_Rd_params_b74 (P W : Int) (X2 : Int × St → Option (Int × St)) (hX2 : ∀ s, So (MRd_params P W) 2 [(0, aR 150), (1, aI (s.1))] [] s.2 (X2 s)) (s0 : Int) (G : St) : SS (MRd_params P W) (lk X2 some) 74 [(0, aR 150)] [aI s0] G (Rd_params_b74 s0 G) := by
  refine r_istore_n 75 [(1, aI s0), (0, aR 150)] dX8_params_74 rfl rfl rfl rfl ?_
  refine r_iload_n 76 0 dX8_params_75 rfl rfl rfl ?_
  refine r_if_eq 89 79 dX8_params_76 rfl rfl ?_ ?_
  · refine r_goto 2 dX8_params_89 rfl ?_
    refine r_to [1, 0] [(0, aR 150), (1, aI s0)] rfl ?_
    exact SS.back (hX2 (s0, G))
  · refine r_aload_n 80 1 dX8_params_79 rfl rfl rfl ?_
    refine r_dup 81 dX8_params_80 rfl rfl ?_
    refine r_get 84 (aI (G 150 2)) dX8_params_81 fkX8_31 (fun _ => dsC_150 P W _) nn150 rfl rfl ?_
    refine r_iconst 85 1 dX8_params_84 rfl rfl ?_
    refine r_iadd 86 dX8_params_85 rfl ?_
    refine r_putI 89 dX8_params_86 fkX8_31 (fun _ => dsC_150 P W _) nn150 rfl rfl ?_
    refine ss_tk (fun G15 => ?_)
    refine r_goto 2 dX8_params_89 rfl ?_
    refine r_to [1, 0] [(0, aR 150), (1, aI s0)] rfl ?_
    exact SS.back (hX2 (s0, G15))
theorem s_Rd_params_s2 (P W : Int) (X2 : Int × St → Option (Int × St)) (hX2 : ∀ s, So (MRd_params P W) 2 [(0, aR 150), (1, aI (s.1))] [] s.2 (X2 s)) (x1 : Int) (G : St) : SS (MRd_params P W) (lk X2 some) 2 [(0, aR 150), (1, aI x1)] [] G (Rd_params_s2 x1 G) := by
  refine r_iload_n 3 1 dX8_params_2 rfl rfl rfl ?_
  refine r_if_eq 92 6 dX8_params_3 rfl rfl ?_ ?_
  · refine SS.ex ?_
    refine r_to [0] [(0, aR 150)] rfl ?_
    exact s_Rd_params_b92 P W G
  · refine r_aload_n 7 0 dX8_params_6 rfl rfl rfl ?_
    refine r_get 10 (aR 130) dX8_params_7 fkX8_27 (fun _ => dsC_150 P W _) nn150 rfl rfl ?_
    refine r_callvI 13 (Mc := MFt_is P W) (o := 130) (as := []) (st := []) dX8_params_10 rfl (c_Ft_is P W G) lkX8_96 (cmFt_is P W) rfl rfl rfl (fun _ => dsC_130 P W _) nn130 rfl (Nat.le_of_ble_eq_true rfl) (Nat.le_of_ble_eq_true rfl) (fun _ => rfl) rfl (fun z3 G4 => ?_)
    refine r_if_ne 92 16 dX8_params_13 rfl rfl ?_ ?_
    · refine SS.ex ?_
      refine r_to [0] [(0, aR 150)] rfl ?_
      exact s_Rd_params_b92 P W G4
    · refine r_aload_n 17 0 dX8_params_16 rfl rfl rfl ?_
      refine r_callvI 20 (Mc := MRd_name P W) (o := 150) (as := []) (st := []) dX8_params_17 rfl (c_Rd_name P W G4) lkX8_186 (cmRd_name P W) rfl rfl rfl (fun _ => dsC_150 P W _) nn150 rfl (Nat.le_of_ble_eq_true rfl) (Nat.le_of_ble_eq_true rfl) (fun _ => rfl) rfl (fun z5 G6 => ?_)
      refine r_istore_n 21 [(2, aI z5), (0, aR 150), (1, aI x1)] dX8_params_20 rfl rfl rfl rfl ?_
      refine r_aload_n 22 1 dX8_params_21 rfl rfl rfl ?_
      refine r_get 25 (aI (G6 150 10)) dX8_params_22 fkX8_114 (fun _ => dsC_150 P W _) nn150 rfl rfl ?_
      refine r_istore_n 26 [(3, aI (G6 150 10)), (2, aI z5), (0, aR 150), (1, aI x1)] dX8_params_25 rfl rfl rfl rfl ?_
      refine r_aload_n 27 2 dX8_params_26 rfl rfl rfl ?_
      refine r_bipush 29 58 dX8_params_27 rfl rfl ?_
      refine r_callvV 32 (Mc := MRd_sign P W) (o := 150) (as := [aI 58]) (st := []) dX8_params_29 rfl (c_Rd_sign P W 58 G6) lkX8_182 (cmRd_sign P W) rfl rfl rfl (fun _ => dsC_150 P W _) nn150 rfl (Nat.le_of_ble_eq_true rfl) (Nat.le_of_ble_eq_true rfl) (fun _ => rfl) rfl (fun z7 G8 => ?_)
      refine r_aload_n 33 2 dX8_params_32 rfl rfl rfl ?_
      refine r_get 36 (aR 110) dX8_params_33 fkX8_19 (fun _ => dsC_150 P W _) nn150 rfl rfl ?_
      refine r_gets 39 2 dX8_params_36 q1119 rfl rfl ?_
      refine r_iload_n 40 1 dX8_params_39 rfl rfl rfl ?_
      refine r_iload_n 41 0 dX8_params_40 rfl rfl rfl ?_
      refine r_aload_n 42 2 dX8_params_41 rfl rfl rfl ?_
      refine r_callvI 45 (Mc := MRd_sort P W) (o := 150) (as := []) (st := [aI (G6 150 10), aI z5, aR 2, aR 110]) dX8_params_42 rfl (c_Rd_sort P W G8) lkX8_169 (cmRd_sort P W) rfl rfl rfl (fun _ => dsC_150 P W _) nn150 rfl (Nat.le_of_ble_eq_true rfl) (Nat.le_of_ble_eq_true rfl) (fun _ => rfl) rfl (fun z9 G10 => ?_)
      refine r_callvI 48 (Mc := MCd_add P W) (o := 110) (as := [aR 2, aI z5, aI (G6 150 10), aI z9]) (st := []) dX8_params_45 rfl (c_Cd_add P W 2 z5 (G6 150 10) z9 G10) lkX8_154 (cmCd_add P W) rfl rfl rfl (fun _ => dsC_110 P W _) nn110 rfl (Nat.le_of_ble_eq_true rfl) (Nat.le_of_ble_eq_true rfl) (fun _ => rfl) rfl (fun z11 G12 => ?_)
      refine r_istore 50 [(4, aI z11), (3, aI (G6 150 10)), (2, aI z5), (0, aR 150), (1, aI x1)] dX8_params_48 rfl rfl rfl ?_
      refine r_aload_n 51 3 dX8_params_50 rfl rfl rfl ?_
      refine r_get 54 (aR 130) dX8_params_51 fkX8_27 (fun _ => dsC_150 P W _) nn150 rfl rfl ?_
      refine r_callvI 57 (Mc := MFt_is P W) (o := 130) (as := []) (st := []) dX8_params_54 rfl (c_Ft_is P W G12) lkX8_96 (cmFt_is P W) rfl rfl rfl (fun _ => dsC_130 P W _) nn130 rfl (Nat.le_of_ble_eq_true rfl) (Nat.le_of_ble_eq_true rfl) (fun _ => rfl) rfl (fun z13 G14 => ?_)
      refine r_if_ne 73 60 dX8_params_57 rfl rfl ?_ ?_
      · refine r_iconst 74 0 dX8_params_73 rfl rfl ?_
        refine r_to [3] [(0, aR 150)] rfl ?_
        exact s_Rd_params_b74 P W X2 hX2 0 G14
      · refine r_aload_n 61 3 dX8_params_60 rfl rfl rfl ?_
        refine r_bipush 63 44 dX8_params_61 rfl rfl ?_
        refine r_callvI 66 (Mc := MRd_isSign P W) (o := 150) (as := [aI 44]) (st := []) dX8_params_63 rfl (c_Rd_isSign P W 44 G14) lkX8_107 (cmRd_isSign P W) rfl rfl rfl (fun _ => dsC_150 P W _) nn150 rfl (Nat.le_of_ble_eq_true rfl) (Nat.le_of_ble_eq_true rfl) (fun _ => rfl) rfl (fun z16 G17 => ?_)
        refine SS.phi (fun VV_ => Rd_params_b74 VV_ G17) ?_
        refine r_if_eq 73 69 dX8_params_66 rfl rfl ?_ ?_
        · refine r_iconst 74 0 dX8_params_73 rfl rfl ?_
          refine r_to [3] [(0, aR 150)] rfl ?_
          exact s_Rd_params_b74 P W X2 hX2 0 G17
        · refine r_iconst 70 1 dX8_params_69 rfl rfl ?_
          refine r_goto 74 dX8_params_70 rfl ?_
          refine r_to [3] [(0, aR 150)] rfl ?_
          exact s_Rd_params_b74 P W X2 hX2 1 G17
theorem sl_Rd_params_2 (P W : Int) (x1 : Int) (G : St) : SS (MRd_params P W) some 2 [(0, aR 150), (1, aI x1)] [] G (Rd_params_l2 x1 G) := by
  exact SS.loop (σ := Int × St) (fun s => [(0, aR 150), (1, aI (s.1))]) (fun s => s.2) (fun s => Rd_params_s2 s.1 s.2) (fun X2 hX2 s => s_Rd_params_s2 P W   X2 hX2 s.1 s.2) (x1, G)
theorem s_Rd_params (P W : Int) (G : St) : SS (MRd_params P W) some 0 [(0, aR 150)] [] G (Rd_params G) := by
  refine r_iconst 1 1 dX8_params_0 rfl rfl ?_
  refine r_istore_n 2 [(1, aI 1), (0, aR 150)] dX8_params_1 rfl rfl rfl rfl ?_
  refine r_to [1, 0] [(0, aR 150), (1, aI 1)] rfl ?_
  exact sl_Rd_params_2 P W 1 G
theorem c_Rd_params (P W : Int) (G : St) : MG (MRd_params P W) [aR 150] G (Rd_params G) := MG.of plX8 (Nat.le_of_ble_eq_true rfl) (s_Rd_params P W G)
theorem s_Rd_def_b74 (P W : Int) (x1 : Int) (x2 : Int) (G : St) : SS (MRd_def P W) some 74 [(0, aR 150), (1, aI x1), (2, aI x2)] [] G (Rd_def_b74 x1 x2 G) := by
  refine r_aload_n 75 0 dX8_def_74 rfl rfl rfl ?_
  refine r_bipush 77 58 dX8_def_75 rfl rfl ?_
  refine r_callvV 80 (Mc := MRd_sign P W) (o := 150) (as := [aI 58]) (st := []) dX8_def_77 rfl (c_Rd_sign P W 58 G) lkX8_182 (cmRd_sign P W) rfl rfl rfl (fun _ => dsC_150 P W _) nn150 rfl (Nat.le_of_ble_eq_true rfl) (Nat.le_of_ble_eq_true rfl) (fun _ => rfl) rfl (fun z12 G13 => ?_)
  refine r_aload_n 81 0 dX8_def_80 rfl rfl rfl ?_
  refine r_callvI 84 (Mc := MRd_sort P W) (o := 150) (as := []) (st := []) dX8_def_81 rfl (c_Rd_sort P W G13) lkX8_169 (cmRd_sort P W) rfl rfl rfl (fun _ => dsC_150 P W _) nn150 rfl (Nat.le_of_ble_eq_true rfl) (Nat.le_of_ble_eq_true rfl) (fun _ => rfl) rfl (fun z14 G15 => ?_)
  refine r_istore_n 85 [(3, aI z14), (0, aR 150), (1, aI x1), (2, aI x2)] dX8_def_84 rfl rfl rfl rfl ?_
  refine r_aload_n 86 1 dX8_def_85 rfl rfl rfl ?_
  refine r_bipush 88 61 dX8_def_86 rfl rfl ?_
  refine r_callvV 91 (Mc := MRd_sign P W) (o := 150) (as := [aI 61]) (st := []) dX8_def_88 rfl (c_Rd_sign P W 61 G15) lkX8_182 (cmRd_sign P W) rfl rfl rfl (fun _ => dsC_150 P W _) nn150 rfl (Nat.le_of_ble_eq_true rfl) (Nat.le_of_ble_eq_true rfl) (fun _ => rfl) rfl (fun z16 G17 => ?_)
  refine r_aload_n 92 1 dX8_def_91 rfl rfl rfl ?_
  refine r_callvV 95 (Mc := MRd_expr P W DX) (o := 150) (as := []) (st := []) dX8_def_92 rfl (c_Rd_expr P W DX G17) lkX8_211 (cmRd_expr P W DX) rfl rfl rfl (fun _ => dsC_150 P W _) nn150 rfl (Nat.le_of_ble_eq_true rfl) (Nat.le_of_ble_eq_true rfl) (fun _ => rfl) rfl (fun z18 G19 => ?_)
  refine r_aload_n 96 1 dX8_def_95 rfl rfl rfl ?_
  refine r_bipush 98 59 dX8_def_96 rfl rfl ?_
  refine r_callvV 101 (Mc := MRd_sign P W) (o := 150) (as := [aI 59]) (st := []) dX8_def_98 rfl (c_Rd_sign P W 59 G19) lkX8_182 (cmRd_sign P W) rfl rfl rfl (fun _ => dsC_150 P W _) nn150 rfl (Nat.le_of_ble_eq_true rfl) (Nat.le_of_ble_eq_true rfl) (fun _ => rfl) rfl (fun z20 G21 => ?_)
  refine r_aload_n 102 1 dX8_def_101 rfl rfl rfl ?_
  refine r_get 105 (aR 110) dX8_def_102 fkX8_19 (fun _ => dsC_150 P W _) nn150 rfl rfl ?_
  refine r_gets 108 3 dX8_def_105 q1240 rfl rfl ?_
  refine r_iload_n 109 2 dX8_def_108 rfl rfl rfl ?_
  refine r_aload_n 110 1 dX8_def_109 rfl rfl rfl ?_
  refine r_get 113 (aI (G21 150 2)) dX8_def_110 fkX8_31 (fun _ => dsC_150 P W _) nn150 rfl rfl ?_
  refine r_iload_n 114 0 dX8_def_113 rfl rfl rfl ?_
  refine r_callvI 117 (Mc := MCd_add P W) (o := 110) (as := [aR 3, aI x1, aI (G21 150 2), aI z14]) (st := []) dX8_def_114 rfl (c_Cd_add P W 3 x1 (G21 150 2) z14 G21) lkX8_154 (cmCd_add P W) rfl rfl rfl (fun _ => dsC_110 P W _) nn110 rfl (Nat.le_of_ble_eq_true rfl) (Nat.le_of_ble_eq_true rfl) (fun _ => rfl) rfl (fun z22 G23 => ?_)
  refine r_istore 119 [(4, aI z22), (3, aI z14), (0, aR 150), (1, aI x1), (2, aI x2)] dX8_def_117 rfl rfl rfl ?_
  refine r_aload_n 120 2 dX8_def_119 rfl rfl rfl ?_
  refine r_get 123 (aR 110) dX8_def_120 fkX8_19 (fun _ => dsC_150 P W _) nn150 rfl rfl ?_
  refine r_get 126 (aR 114) dX8_def_123 fkX8_217 (fun _ => dsC_110 P W _) nn110 rfl rfl ?_
  refine r_iload_n 127 4 dX8_def_126 rfl rfl rfl ?_
  refine r_iload 129 0 dX8_def_127 rfl rfl ?_
  refine r_iast 130 dX8_def_129 (fun _ _ _ => dsC_114 P W _) (fun _ _ => nn114) rfl ?_
  refine ss_tk (fun G24 => ?_)
  exact r_return dX8_def_130 rfl
theorem s_Rd_def_b70 (P W : Int) (x1 : Int) (x2 : Int) (G : St) : SS (MRd_def P W) some 70 [(0, aR 150), (1, aI x1), (2, aI x2)] [] G (Rd_def_b70 x1 x2 G) := by
  refine r_aload_n 71 0 dX8_def_70 rfl rfl rfl ?_
  refine r_callvV 74 (Mc := MRd_params P W) (o := 150) (as := []) (st := []) dX8_def_71 rfl (c_Rd_params P W G) lkX8_208 (cmRd_params P W) rfl rfl rfl (fun _ => dsC_150 P W _) nn150 rfl (Nat.le_of_ble_eq_true rfl) (Nat.le_of_ble_eq_true rfl) (fun _ => rfl) rfl (fun z10 G11 => ?_)
  exact s_Rd_def_b74 P W x1 x2 G11
theorem s_Rd_def (P W : Int) (G : St) : SS (MRd_def P W) some 0 [(0, aR 150)] [] G (Rd_def G) := by
  refine r_aload_n 1 0 dX8_def_0 rfl rfl rfl ?_
  refine r_dup 2 dX8_def_1 rfl rfl ?_
  refine r_get 5 (aI (G 150 2)) dX8_def_2 fkX8_31 (fun _ => dsC_150 P W _) nn150 rfl rfl ?_
  refine r_iconst 6 3 dX8_def_5 rfl rfl ?_
  refine r_iadd 7 dX8_def_6 rfl ?_
  refine r_putI 10 dX8_def_7 fkX8_31 (fun _ => dsC_150 P W _) nn150 rfl rfl ?_
  refine ss_tk (fun G1 => ?_)
  refine r_aload_n 11 0 dX8_def_10 rfl rfl rfl ?_
  refine r_callvI 14 (Mc := MRd_name P W) (o := 150) (as := []) (st := []) dX8_def_11 rfl (c_Rd_name P W G1) lkX8_186 (cmRd_name P W) rfl rfl rfl (fun _ => dsC_150 P W _) nn150 rfl (Nat.le_of_ble_eq_true rfl) (Nat.le_of_ble_eq_true rfl) (fun _ => rfl) rfl (fun z2 G3 => ?_)
  refine r_istore_n 15 [(1, aI z2), (0, aR 150)] dX8_def_14 rfl rfl rfl rfl ?_
  refine r_aload_n 16 1 dX8_def_15 rfl rfl rfl ?_
  refine r_get 19 (aR 110) dX8_def_16 fkX8_19 (fun _ => dsC_150 P W _) nn150 rfl rfl ?_
  refine r_gets 22 1 dX8_def_19 q1113 rfl rfl ?_
  refine r_iload_n 23 0 dX8_def_22 rfl rfl rfl ?_
  refine r_aload_n 24 1 dX8_def_23 rfl rfl rfl ?_
  refine r_get 27 (aI (G3 150 10)) dX8_def_24 fkX8_114 (fun _ => dsC_150 P W _) nn150 rfl rfl ?_
  refine r_iconst 28 0 dX8_def_27 rfl rfl ?_
  refine r_callvI 31 (Mc := MCd_add P W) (o := 110) (as := [aR 1, aI z2, aI (G3 150 10), aI 0]) (st := []) dX8_def_28 rfl (c_Cd_add P W 1 z2 (G3 150 10) 0 G3) lkX8_154 (cmCd_add P W) rfl rfl rfl (fun _ => dsC_110 P W _) nn110 rfl (Nat.le_of_ble_eq_true rfl) (Nat.le_of_ble_eq_true rfl) (fun _ => rfl) rfl (fun z4 G5 => ?_)
  refine r_istore_n 32 [(2, aI z4), (1, aI z2), (0, aR 150)] dX8_def_31 rfl rfl rfl rfl ?_
  refine r_aload_n 33 2 dX8_def_32 rfl rfl rfl ?_
  refine r_bipush 35 40 dX8_def_33 rfl rfl ?_
  refine r_callvV 38 (Mc := MRd_sign P W) (o := 150) (as := [aI 40]) (st := []) dX8_def_35 rfl (c_Rd_sign P W 40 G5) lkX8_182 (cmRd_sign P W) rfl rfl rfl (fun _ => dsC_150 P W _) nn150 rfl (Nat.le_of_ble_eq_true rfl) (Nat.le_of_ble_eq_true rfl) (fun _ => rfl) rfl (fun z6 G7 => ?_)
  refine r_aload_n 39 2 dX8_def_38 rfl rfl rfl ?_
  refine r_get 42 (aR 130) dX8_def_39 fkX8_27 (fun _ => dsC_150 P W _) nn150 rfl rfl ?_
  refine r_callvI 45 (Mc := MFt_is P W) (o := 130) (as := []) (st := []) dX8_def_42 rfl (c_Ft_is P W G7) lkX8_96 (cmFt_is P W) rfl rfl rfl (fun _ => dsC_130 P W _) nn130 rfl (Nat.le_of_ble_eq_true rfl) (Nat.le_of_ble_eq_true rfl) (fun _ => rfl) rfl (fun z8 G9 => ?_)
  refine r_if_ne 70 48 dX8_def_45 rfl rfl ?_ ?_
  · refine r_to [2, 1, 0] [(0, aR 150), (1, aI z2), (2, aI z4)] rfl ?_
    exact s_Rd_def_b70 P W z2 z4 G9
  · refine r_aload_n 49 2 dX8_def_48 rfl rfl rfl ?_
    refine r_bipush 51 41 dX8_def_49 rfl rfl ?_
    refine r_callvI 54 (Mc := MRd_isSign P W) (o := 150) (as := [aI 41]) (st := []) dX8_def_51 rfl (c_Rd_isSign P W 41 G9) lkX8_107 (cmRd_isSign P W) rfl rfl rfl (fun _ => dsC_150 P W _) nn150 rfl (Nat.le_of_ble_eq_true rfl) (Nat.le_of_ble_eq_true rfl) (fun _ => rfl) rfl (fun z25 G26 => ?_)
    refine r_if_eq 70 57 dX8_def_54 rfl rfl ?_ ?_
    · refine r_to [2, 1, 0] [(0, aR 150), (1, aI z2), (2, aI z4)] rfl ?_
      exact s_Rd_def_b70 P W z2 z4 G26
    · refine r_aload_n 58 2 dX8_def_57 rfl rfl rfl ?_
      refine r_dup 59 dX8_def_58 rfl rfl ?_
      refine r_get 62 (aI (G26 150 2)) dX8_def_59 fkX8_31 (fun _ => dsC_150 P W _) nn150 rfl rfl ?_
      refine r_iconst 63 1 dX8_def_62 rfl rfl ?_
      refine r_iadd 64 dX8_def_63 rfl ?_
      refine r_putI 67 dX8_def_64 fkX8_31 (fun _ => dsC_150 P W _) nn150 rfl rfl ?_
      refine ss_tk (fun G27 => ?_)
      refine r_goto 74 dX8_def_67 rfl ?_
      refine r_to [2, 1, 0] [(0, aR 150), (1, aI z2), (2, aI z4)] rfl ?_
      exact s_Rd_def_b74 P W z2 z4 G27
theorem c_Rd_def (P W : Int) (G : St) : MG (MRd_def P W) [aR 150] G (Rd_def G) := MG.of plX8 (Nat.le_of_ble_eq_true rfl) (s_Rd_def P W G)
theorem s_Rd_type (P W : Int) (G : St) : SS (MRd_type P W) some 0 [(0, aR 150)] [] G (Rd_type G) := by
  refine r_aload_n 1 0 dX8_type_0 rfl rfl rfl ?_
  refine r_aload_n 2 0 dX8_type_1 rfl rfl rfl ?_
  refine r_callvI 5 (Mc := MRd_sort P W) (o := 150) (as := []) (st := [aR 150]) dX8_type_2 rfl (c_Rd_sort P W G) lkX8_169 (cmRd_sort P W) rfl rfl rfl (fun _ => dsC_150 P W _) nn150 rfl (Nat.le_of_ble_eq_true rfl) (Nat.le_of_ble_eq_true rfl) (fun _ => rfl) rfl (fun z1 G2 => ?_)
  refine r_putI 8 dX8_type_5 fkX8_172 (fun _ => dsC_150 P W _) nn150 rfl rfl ?_
  refine ss_tk (fun G3 => ?_)
  refine r_aload_n 9 0 dX8_type_8 rfl rfl rfl ?_
  refine r_iconst 10 0 dX8_type_9 rfl rfl ?_
  refine r_putI 13 dX8_type_10 fkX8_174 (fun _ => dsC_150 P W _) nn150 rfl rfl ?_
  refine ss_tk (fun G4 => ?_)
  refine r_aload_n 14 0 dX8_type_13 rfl rfl rfl ?_
  refine r_get 17 (aR 130) dX8_type_14 fkX8_27 (fun _ => dsC_150 P W _) nn150 rfl rfl ?_
  refine r_callvI 20 (Mc := MFt_is P W) (o := 130) (as := []) (st := []) dX8_type_17 rfl (c_Ft_is P W G4) lkX8_96 (cmFt_is P W) rfl rfl rfl (fun _ => dsC_130 P W _) nn130 rfl (Nat.le_of_ble_eq_true rfl) (Nat.le_of_ble_eq_true rfl) (fun _ => rfl) rfl (fun z5 G6 => ?_)
  refine r_if_ne 32 23 dX8_type_20 rfl rfl ?_ ?_
  · exact r_return dX8_type_32 rfl
  · refine r_aload_n 24 0 dX8_type_23 rfl rfl rfl ?_
    refine r_bipush 26 91 dX8_type_24 rfl rfl ?_
    refine r_callvI 29 (Mc := MRd_isSign P W) (o := 150) (as := [aI 91]) (st := []) dX8_type_26 rfl (c_Rd_isSign P W 91 G6) lkX8_107 (cmRd_isSign P W) rfl rfl rfl (fun _ => dsC_150 P W _) nn150 rfl (Nat.le_of_ble_eq_true rfl) (Nat.le_of_ble_eq_true rfl) (fun _ => rfl) rfl (fun z7 G8 => ?_)
    refine r_if_ne 33 32 dX8_type_29 rfl rfl ?_ ?_
    · refine r_aload_n 34 0 dX8_type_33 rfl rfl rfl ?_
      refine r_dup 35 dX8_type_34 rfl rfl ?_
      refine r_get 38 (aI (G8 150 2)) dX8_type_35 fkX8_31 (fun _ => dsC_150 P W _) nn150 rfl rfl ?_
      refine r_iconst 39 1 dX8_type_38 rfl rfl ?_
      refine r_iadd 40 dX8_type_39 rfl ?_
      refine r_putI 43 dX8_type_40 fkX8_31 (fun _ => dsC_150 P W _) nn150 rfl rfl ?_
      refine ss_tk (fun G9 => ?_)
      refine r_aload_n 44 0 dX8_type_43 rfl rfl rfl ?_
      refine r_aload_n 45 0 dX8_type_44 rfl rfl rfl ?_
      refine r_lconst 46 1 dX8_type_45 rfl rfl rfl ?_
      refine r_ldc2 49 64 dX8_type_46 q1101 (by decide) rfl rfl ?_
      refine r_callvI 52 (Mc := MRd_number P W) (o := 150) (as := [aL 1, aL 64]) (st := [aR 150]) dX8_type_49 rfl (c_Rd_number P W 1 64 G9) lkX8_179 (cmRd_number P W) rfl rfl rfl (fun _ => dsC_150 P W _) nn150 rfl (Nat.le_of_ble_eq_true rfl) (Nat.le_of_ble_eq_true rfl) (fun _ => rfl) rfl (fun z10 G11 => ?_)
      refine r_putI 55 dX8_type_52 fkX8_174 (fun _ => dsC_150 P W _) nn150 rfl rfl ?_
      refine ss_tk (fun G12 => ?_)
      refine r_aload_n 56 0 dX8_type_55 rfl rfl rfl ?_
      refine r_bipush 58 93 dX8_type_56 rfl rfl ?_
      refine r_callvV 61 (Mc := MRd_sign P W) (o := 150) (as := [aI 93]) (st := []) dX8_type_58 rfl (c_Rd_sign P W 93 G12) lkX8_182 (cmRd_sign P W) rfl rfl rfl (fun _ => dsC_150 P W _) nn150 rfl (Nat.le_of_ble_eq_true rfl) (Nat.le_of_ble_eq_true rfl) (fun _ => rfl) rfl (fun z13 G14 => ?_)
      exact r_return dX8_type_61 rfl
    · exact r_return dX8_type_32 rfl
theorem c_Rd_type (P W : Int) (G : St) : MG (MRd_type P W) [aR 150] G (Rd_type G) := MG.of plX8 (Nat.le_of_ble_eq_true rfl) (s_Rd_type P W G)
theorem s_Rd_word (P W : Int) (x1 : Int) (G : St) : SS (MRd_word P W) some 0 [(0, aR 150), (1, aR x1)] [] G (Rd_word x1 G) := by
  refine r_aload_n 1 0 dX8_word_0 rfl rfl rfl ?_
  refine r_callvV 4 (Mc := MRd_skip P W) (o := 150) (as := []) (st := []) dX8_word_1 rfl (c_Rd_skip P W G) lkX8_93 (cmRd_skip P W) rfl rfl rfl (fun _ => dsC_150 P W _) nn150 rfl (Nat.le_of_ble_eq_true rfl) (Nat.le_of_ble_eq_true rfl) (fun _ => rfl) rfl (fun z1 G2 => ?_)
  refine r_aload_n 5 0 dX8_word_4 rfl rfl rfl ?_
  refine r_get 8 (aR 130) dX8_word_5 fkX8_27 (fun _ => dsC_150 P W _) nn150 rfl rfl ?_
  refine r_callvI 11 (Mc := MFt_is P W) (o := 130) (as := []) (st := []) dX8_word_8 rfl (c_Ft_is P W G2) lkX8_96 (cmFt_is P W) rfl rfl rfl (fun _ => dsC_130 P W _) nn130 rfl (Nat.le_of_ble_eq_true rfl) (Nat.le_of_ble_eq_true rfl) (fun _ => rfl) rfl (fun z3 G4 => ?_)
  refine r_if_eq 15 14 dX8_word_11 rfl rfl ?_ ?_
  · refine r_aload_n 16 0 dX8_word_15 rfl rfl rfl ?_
    refine r_aload_n 17 1 dX8_word_16 rfl rfl rfl ?_
    refine r_callvI 20 (Mc := MRd_isWord P W) (o := 150) (as := [aR x1]) (st := []) dX8_word_17 rfl (c_Rd_isWord P W x1 G4) lkX8_65 (cmRd_isWord P W) rfl rfl rfl (fun _ => dsC_150 P W _) nn150 rfl (Nat.le_of_ble_eq_true rfl) (Nat.le_of_ble_eq_true rfl) (fun _ => rfl) rfl (fun z5 G6 => ?_)
    refine r_if_eq 39 23 dX8_word_20 rfl rfl ?_ ?_
    · refine r_aload_n 40 0 dX8_word_39 rfl rfl rfl ?_
      refine r_callvV 43 (Mc := MRd_bad P W) (o := 150) (as := []) (st := []) dX8_word_40 rfl (c_Rd_bad P W G6) lkX8_100 (cmRd_bad P W) rfl rfl rfl (fun _ => dsC_150 P W _) nn150 rfl (Nat.le_of_ble_eq_true rfl) (Nat.le_of_ble_eq_true rfl) (fun _ => rfl) rfl (fun z7 G8 => ?_)
      exact r_return dX8_word_43 rfl
    · refine r_aload_n 24 0 dX8_word_23 rfl rfl rfl ?_
      refine r_dup 25 dX8_word_24 rfl rfl ?_
      refine r_get 28 (aI (G6 150 2)) dX8_word_25 fkX8_31 (fun _ => dsC_150 P W _) nn150 rfl rfl ?_
      refine r_aload_n 29 1 dX8_word_28 rfl rfl rfl ?_
      refine r_S_len 32 (st := [aI (G6 150 2), aR 150]) dX8_word_29 q968 rfl (Nat.le_of_ble_eq_true rfl) (Nat.le_of_ble_eq_true rfl) rfl (fun z9 G10 => ?_)
      refine r_iadd 33 dX8_word_32 rfl ?_
      refine r_putI 36 dX8_word_33 fkX8_31 (fun _ => dsC_150 P W _) nn150 rfl rfl ?_
      refine ss_tk (fun G11 => ?_)
      refine r_goto 43 dX8_word_36 rfl ?_
      exact r_return dX8_word_43 rfl
  · exact r_return dX8_word_14 rfl
theorem c_Rd_word (P W : Int) (x1 : Int) (G : St) : MG (MRd_word P W) [aR 150, aR x1] G (Rd_word x1 G) := MG.of plX8 (Nat.le_of_ble_eq_true rfl) (s_Rd_word P W x1 G)
theorem s_Rd_input_b96 (P W : Int) (x1 : Int) (x2 : Int) (x3 : Int) (G : St) : SS (MRd_input P W) some 96 [(0, aR 150), (1, aI x1), (2, aI x2), (3, aI x3)] [] G (Rd_input_b96 P W x1 x2 x3 G) := by
  refine r_aload_n 97 0 dX8_input_96 rfl rfl rfl ?_
  refine r_bipush 99 59 dX8_input_97 rfl rfl ?_
  refine r_callvV 102 (Mc := MRd_sign P W) (o := 150) (as := [aI 59]) (st := []) dX8_input_99 rfl (c_Rd_sign P W 59 G) lkX8_182 (cmRd_sign P W) rfl rfl rfl (fun _ => dsC_150 P W _) nn150 rfl (Nat.le_of_ble_eq_true rfl) (Nat.le_of_ble_eq_true rfl) (fun _ => rfl) rfl (fun z15 G16 => ?_)
  refine r_aload_n 103 0 dX8_input_102 rfl rfl rfl ?_
  refine r_get 106 (aR 110) dX8_input_103 fkX8_19 (fun _ => dsC_150 P W _) nn150 rfl rfl ?_
  refine r_gets 109 0 dX8_input_106 q1103 rfl rfl ?_
  refine r_iload_n 110 1 dX8_input_109 rfl rfl rfl ?_
  refine r_iload_n 111 2 dX8_input_110 rfl rfl rfl ?_
  refine r_sipush 114 256 dX8_input_111 rfl rfl ?_
  refine r_iload_n 115 3 dX8_input_114 rfl rfl rfl ?_
  refine r_imul 116 dX8_input_115 rfl ?_
  refine r_iconst 117 2 dX8_input_116 rfl rfl ?_
  refine r_aload_n 118 0 dX8_input_117 rfl rfl rfl ?_
  refine r_get 121 (aI (G16 150 12)) dX8_input_118 fkX8_174 (fun _ => dsC_150 P W _) nn150 rfl rfl ?_
  refine r_imul 122 dX8_input_121 rfl ?_
  refine r_iadd 123 dX8_input_122 rfl ?_
  refine r_aload_n 124 0 dX8_input_123 rfl rfl rfl ?_
  refine r_get 127 (aI (G16 150 11)) dX8_input_124 fkX8_172 (fun _ => dsC_150 P W _) nn150 rfl rfl ?_
  refine r_iadd 128 dX8_input_127 rfl ?_
  refine r_callvI 131 (Mc := MCd_add P W) (o := 110) (as := [aR 0, aI x1, aI x2, aI (((256 * x3) + (2 * (G16 150 12))) + (G16 150 11))]) (st := []) dX8_input_128 rfl (c_Cd_add P W 0 x1 x2 (((256 * x3) + (2 * (G16 150 12))) + (G16 150 11)) G16) lkX8_154 (cmCd_add P W) rfl rfl rfl (fun _ => dsC_110 P W _) nn110 rfl (Nat.le_of_ble_eq_true rfl) (Nat.le_of_ble_eq_true rfl) (fun _ => rfl) rfl (fun z17 G18 => ?_)
  refine r_istore 133 [(4, aI z17), (0, aR 150), (1, aI x1), (2, aI x2), (3, aI x3)] dX8_input_131 rfl rfl rfl ?_
  exact r_return dX8_input_133 rfl
theorem s_Rd_input (P W : Int) (G : St) : SS (MRd_input P W) some 0 [(0, aR 150)] [] G (Rd_input P W G) := by
  refine r_aload_n 1 0 dX8_input_0 rfl rfl rfl ?_
  refine r_dup 2 dX8_input_1 rfl rfl ?_
  refine r_get 5 (aI (G 150 2)) dX8_input_2 fkX8_31 (fun _ => dsC_150 P W _) nn150 rfl rfl ?_
  refine r_iconst 6 5 dX8_input_5 rfl rfl ?_
  refine r_iadd 7 dX8_input_6 rfl ?_
  refine r_putI 10 dX8_input_7 fkX8_31 (fun _ => dsC_150 P W _) nn150 rfl rfl ?_
  refine ss_tk (fun G1 => ?_)
  refine r_aload_n 11 0 dX8_input_10 rfl rfl rfl ?_
  refine r_callvI 14 (Mc := MRd_name P W) (o := 150) (as := []) (st := []) dX8_input_11 rfl (c_Rd_name P W G1) lkX8_186 (cmRd_name P W) rfl rfl rfl (fun _ => dsC_150 P W _) nn150 rfl (Nat.le_of_ble_eq_true rfl) (Nat.le_of_ble_eq_true rfl) (fun _ => rfl) rfl (fun z2 G3 => ?_)
  refine r_istore_n 15 [(1, aI z2), (0, aR 150)] dX8_input_14 rfl rfl rfl rfl ?_
  refine r_aload_n 16 1 dX8_input_15 rfl rfl rfl ?_
  refine r_get 19 (aI (G3 150 10)) dX8_input_16 fkX8_114 (fun _ => dsC_150 P W _) nn150 rfl rfl ?_
  refine r_istore_n 20 [(2, aI (G3 150 10)), (1, aI z2), (0, aR 150)] dX8_input_19 rfl rfl rfl rfl ?_
  refine r_aload_n 21 2 dX8_input_20 rfl rfl rfl ?_
  refine r_ldcs 23 1 dX8_input_21 q1038 rfl rfl rfl ?_
  refine r_callvV 26 (Mc := MRd_word P W) (o := 150) (as := [aR 71]) (st := []) dX8_input_23 rfl (c_Rd_word P W 71 G3) lkX8_189 (cmRd_word P W) rfl rfl rfl (fun _ => dsC_150 P W _) nn150 rfl (Nat.le_of_ble_eq_true rfl) (Nat.le_of_ble_eq_true rfl) (fun _ => rfl) rfl (fun z4 G5 => ?_)
  refine r_aload_n 27 2 dX8_input_26 rfl rfl rfl ?_
  refine r_lconst 28 0 dX8_input_27 rfl rfl rfl ?_
  refine r_aload_n 29 2 dX8_input_28 rfl rfl rfl ?_
  refine r_get 32 (aI P) dX8_input_29 fkX8_15 (fun _ => dsC_150 P W _) nn150 rfl rfl ?_
  refine r_iconst 33 1 dX8_input_32 rfl rfl ?_
  refine r_isub 34 dX8_input_33 rfl ?_
  refine r_i2l 35 dX8_input_34 rfl ?_
  refine r_callvI 38 (Mc := MRd_number P W) (o := 150) (as := [aL 0, aL (P - 1)]) (st := []) dX8_input_35 rfl (c_Rd_number P W 0 (P - 1) G5) lkX8_179 (cmRd_number P W) rfl rfl rfl (fun _ => dsC_150 P W _) nn150 rfl (Nat.le_of_ble_eq_true rfl) (Nat.le_of_ble_eq_true rfl) (fun _ => rfl) rfl (fun z6 G7 => ?_)
  refine r_istore_n 39 [(3, aI z6), (2, aI (G3 150 10)), (1, aI z2), (0, aR 150)] dX8_input_38 rfl rfl rfl rfl ?_
  refine r_aload_n 40 3 dX8_input_39 rfl rfl rfl ?_
  refine r_bipush 42 58 dX8_input_40 rfl rfl ?_
  refine r_callvV 45 (Mc := MRd_sign P W) (o := 150) (as := [aI 58]) (st := []) dX8_input_42 rfl (c_Rd_sign P W 58 G7) lkX8_182 (cmRd_sign P W) rfl rfl rfl (fun _ => dsC_150 P W _) nn150 rfl (Nat.le_of_ble_eq_true rfl) (Nat.le_of_ble_eq_true rfl) (fun _ => rfl) rfl (fun z8 G9 => ?_)
  refine r_aload_n 46 3 dX8_input_45 rfl rfl rfl ?_
  refine r_callvV 49 (Mc := MRd_type P W) (o := 150) (as := []) (st := []) dX8_input_46 rfl (c_Rd_type P W G9) lkX8_193 (cmRd_type P W) rfl rfl rfl (fun _ => dsC_150 P W _) nn150 rfl (Nat.le_of_ble_eq_true rfl) (Nat.le_of_ble_eq_true rfl) (fun _ => rfl) rfl (fun z10 G11 => ?_)
  refine r_aload_n 50 3 dX8_input_49 rfl rfl rfl ?_
  refine r_get 53 (aR 130) dX8_input_50 fkX8_27 (fun _ => dsC_150 P W _) nn150 rfl rfl ?_
  refine r_callvI 56 (Mc := MFt_is P W) (o := 130) (as := []) (st := []) dX8_input_53 rfl (c_Ft_is P W G11) lkX8_96 (cmFt_is P W) rfl rfl rfl (fun _ => dsC_130 P W _) nn130 rfl (Nat.le_of_ble_eq_true rfl) (Nat.le_of_ble_eq_true rfl) (fun _ => rfl) rfl (fun z12 G13 => ?_)
  refine r_if_eq 60 59 dX8_input_56 rfl rfl ?_ ?_
  · refine r_aload_n 61 3 dX8_input_60 rfl rfl rfl ?_
    refine r_dup 62 dX8_input_61 rfl rfl ?_
    refine r_get 65 (aI (G13 150 4)) dX8_input_62 fkX8_139 (fun _ => dsC_150 P W _) nn150 rfl rfl ?_
    refine r_iconst 66 1 dX8_input_65 rfl rfl ?_
    refine r_aload_n 67 3 dX8_input_66 rfl rfl rfl ?_
    refine r_get 70 (aI (G13 150 12)) dX8_input_67 fkX8_174 (fun _ => dsC_150 P W _) nn150 rfl rfl ?_
    refine r_mmax 73 dX8_input_70 q1102 (Nat.le_of_ble_eq_true rfl) (Nat.le_of_ble_eq_true rfl) rfl rfl ?_
    refine r_iadd 74 dX8_input_73 rfl ?_
    refine r_putI 77 dX8_input_74 fkX8_139 (fun _ => dsC_150 P W _) nn150 rfl rfl ?_
    refine ss_tk (fun G14 => ?_)
    refine r_aload_n 78 3 dX8_input_77 rfl rfl rfl ?_
    refine r_get 81 (aI (G14 150 4)) dX8_input_78 fkX8_139 (fun _ => dsC_150 P W _) nn150 rfl rfl ?_
    refine r_sipush 84 256 dX8_input_81 rfl rfl ?_
    refine r_icmp_le 96 87 dX8_input_84 rfl rfl ?_ ?_
    · refine r_to [3, 2, 1, 0] [(0, aR 150), (1, aI z2), (2, aI (G3 150 10)), (3, aI z6)] rfl ?_
      exact s_Rd_input_b96 P W z2 (G3 150 10) z6 G14
    · refine r_aload_n 88 3 dX8_input_87 rfl rfl rfl ?_
      refine r_get 91 (aR 130) dX8_input_88 fkX8_27 (fun _ => dsC_150 P W _) nn150 rfl rfl ?_
      refine r_iconst 92 2 dX8_input_91 rfl rfl ?_
      refine r_iload_n 93 1 dX8_input_92 rfl rfl rfl ?_
      refine r_callvV 96 (Mc := MFt_set P W) (o := 130) (as := [aI 2, aI (G3 150 10)]) (st := []) dX8_input_93 rfl (c_Ft_set P W 2 (G3 150 10) G14) lkX8_37 (cmFt_set P W) rfl rfl rfl (fun _ => dsC_130 P W _) nn130 rfl (Nat.le_of_ble_eq_true rfl) (Nat.le_of_ble_eq_true rfl) (fun _ => rfl) rfl (fun z19 G20 => ?_)
      refine r_to [3, 2, 1, 0] [(0, aR 150), (1, aI z2), (2, aI (G3 150 10)), (3, aI z6)] rfl ?_
      exact s_Rd_input_b96 P W z2 (G3 150 10) z6 G20
  · exact r_return dX8_input_59 rfl
theorem c_Rd_input (P W : Int) (G : St) : MG (MRd_input P W) [aR 150] G (Rd_input P W G) := MG.of plX8 (Nat.le_of_ble_eq_true rfl) (s_Rd_input P W G)
theorem s_Rd_output (P W : Int) (G : St) : SS (MRd_output P W) some 0 [(0, aR 150)] [] G (Rd_output G) := by
  refine r_aload_n 1 0 dX8_output_0 rfl rfl rfl ?_
  refine r_get 4 (aR 110) dX8_output_1 fkX8_19 (fun _ => dsC_150 P W _) nn150 rfl rfl ?_
  refine r_gets 7 4 dX8_output_4 q1246 rfl rfl ?_
  refine r_iconst 8 0 dX8_output_7 rfl rfl ?_
  refine r_aload_n 9 0 dX8_output_8 rfl rfl rfl ?_
  refine r_get 12 (aI (G 150 2)) dX8_output_9 fkX8_31 (fun _ => dsC_150 P W _) nn150 rfl rfl ?_
  refine r_iconst 13 0 dX8_output_12 rfl rfl ?_
  refine r_callvI 16 (Mc := MCd_add P W) (o := 110) (as := [aR 4, aI 0, aI (G 150 2), aI 0]) (st := []) dX8_output_13 rfl (c_Cd_add P W 4 0 (G 150 2) 0 G) lkX8_154 (cmCd_add P W) rfl rfl rfl (fun _ => dsC_110 P W _) nn110 rfl (Nat.le_of_ble_eq_true rfl) (Nat.le_of_ble_eq_true rfl) (fun _ => rfl) rfl (fun z1 G2 => ?_)
  refine r_istore_n 17 [(1, aI z1), (0, aR 150)] dX8_output_16 rfl rfl rfl rfl ?_
  refine r_aload_n 18 1 dX8_output_17 rfl rfl rfl ?_
  refine r_dup 19 dX8_output_18 rfl rfl ?_
  refine r_get 22 (aI (G2 150 2)) dX8_output_19 fkX8_31 (fun _ => dsC_150 P W _) nn150 rfl rfl ?_
  refine r_bipush 24 6 dX8_output_22 rfl rfl ?_
  refine r_iadd 25 dX8_output_24 rfl ?_
  refine r_putI 28 dX8_output_25 fkX8_31 (fun _ => dsC_150 P W _) nn150 rfl rfl ?_
  refine ss_tk (fun G3 => ?_)
  refine r_aload_n 29 1 dX8_output_28 rfl rfl rfl ?_
  refine r_callvV 32 (Mc := MRd_expr P W DX) (o := 150) (as := []) (st := []) dX8_output_29 rfl (c_Rd_expr P W DX G3) lkX8_211 (cmRd_expr P W DX) rfl rfl rfl (fun _ => dsC_150 P W _) nn150 rfl (Nat.le_of_ble_eq_true rfl) (Nat.le_of_ble_eq_true rfl) (fun _ => rfl) rfl (fun z4 G5 => ?_)
  refine r_aload_n 33 1 dX8_output_32 rfl rfl rfl ?_
  refine r_bipush 35 59 dX8_output_33 rfl rfl ?_
  refine r_callvV 38 (Mc := MRd_sign P W) (o := 150) (as := [aI 59]) (st := []) dX8_output_35 rfl (c_Rd_sign P W 59 G5) lkX8_182 (cmRd_sign P W) rfl rfl rfl (fun _ => dsC_150 P W _) nn150 rfl (Nat.le_of_ble_eq_true rfl) (Nat.le_of_ble_eq_true rfl) (fun _ => rfl) rfl (fun z6 G7 => ?_)
  refine r_aload_n 39 1 dX8_output_38 rfl rfl rfl ?_
  refine r_get 42 (aR 110) dX8_output_39 fkX8_19 (fun _ => dsC_150 P W _) nn150 rfl rfl ?_
  refine r_gets 45 5 dX8_output_42 q1248 rfl rfl ?_
  refine r_iconst 46 0 dX8_output_45 rfl rfl ?_
  refine r_aload_n 47 1 dX8_output_46 rfl rfl rfl ?_
  refine r_get 50 (aI (G7 150 2)) dX8_output_47 fkX8_31 (fun _ => dsC_150 P W _) nn150 rfl rfl ?_
  refine r_iconst 51 0 dX8_output_50 rfl rfl ?_
  refine r_callvI 54 (Mc := MCd_add P W) (o := 110) (as := [aR 5, aI 0, aI (G7 150 2), aI 0]) (st := []) dX8_output_51 rfl (c_Cd_add P W 5 0 (G7 150 2) 0 G7) lkX8_154 (cmCd_add P W) rfl rfl rfl (fun _ => dsC_110 P W _) nn110 rfl (Nat.le_of_ble_eq_true rfl) (Nat.le_of_ble_eq_true rfl) (fun _ => rfl) rfl (fun z8 G9 => ?_)
  refine r_istore_n 55 [(1, aI z8), (0, aR 150)] dX8_output_54 rfl rfl rfl rfl ?_
  exact r_return dX8_output_55 rfl
theorem c_Rd_output (P W : Int) (G : St) : MG (MRd_output P W) [aR 150] G (Rd_output G) := MG.of plX8 (Nat.le_of_ble_eq_true rfl) (s_Rd_output P W G)
theorem s_Rd_assignment_b176 (P W : Int) (s0 : Int) (s1 : Int) (s2 : Int) (s3 : Int) (G : St) : SS (MRd_assignment P W) some 176 [] [aI s0, aI s1, aI s2, aR s3, aR 110] G (Rd_assignment_b176 s0 s1 s2 s3 G) := by
  refine r_callvI 179 (Mc := MCd_add P W) (o := 110) (as := [aR s3, aI s2, aI s1, aI s0]) (st := []) dX8_assignment_176 rfl (c_Cd_add P W s3 s2 s1 s0 G) lkX8_154 (cmCd_add P W) rfl rfl rfl (fun _ => dsC_110 P W _) nn110 rfl (Nat.le_of_ble_eq_true rfl) (Nat.le_of_ble_eq_true rfl) (fun _ => rfl) rfl (fun z15 G16 => ?_)
  refine r_istore_n 180 [(1, aI z15)] dX8_assignment_179 rfl rfl rfl rfl ?_
  exact r_return dX8_assignment_180 rfl
theorem s_Rd_assignment_b141 (P W : Int) (x2 : Int) (x3 : Int) (x4 : Int) (G : St) : SS (MRd_assignment P W) some 141 [(0, aR 150), (2, aI x2), (3, aI x3), (4, aI x4)] [] G (Rd_assignment_b141 x2 x3 x4 G) := by
  refine r_aload_n 142 0 dX8_assignment_141 rfl rfl rfl ?_
  refine r_bipush 144 61 dX8_assignment_142 rfl rfl ?_
  refine r_callvV 147 (Mc := MRd_sign P W) (o := 150) (as := [aI 61]) (st := []) dX8_assignment_144 rfl (c_Rd_sign P W 61 G) lkX8_182 (cmRd_sign P W) rfl rfl rfl (fun _ => dsC_150 P W _) nn150 rfl (Nat.le_of_ble_eq_true rfl) (Nat.le_of_ble_eq_true rfl) (fun _ => rfl) rfl (fun z9 G10 => ?_)
  refine r_aload_n 148 0 dX8_assignment_147 rfl rfl rfl ?_
  refine r_callvV 151 (Mc := MRd_expr P W DX) (o := 150) (as := []) (st := []) dX8_assignment_148 rfl (c_Rd_expr P W DX G10) lkX8_211 (cmRd_expr P W DX) rfl rfl rfl (fun _ => dsC_150 P W _) nn150 rfl (Nat.le_of_ble_eq_true rfl) (Nat.le_of_ble_eq_true rfl) (fun _ => rfl) rfl (fun z11 G12 => ?_)
  refine r_aload_n 152 0 dX8_assignment_151 rfl rfl rfl ?_
  refine r_bipush 154 59 dX8_assignment_152 rfl rfl ?_
  refine r_callvV 157 (Mc := MRd_sign P W) (o := 150) (as := [aI 59]) (st := []) dX8_assignment_154 rfl (c_Rd_sign P W 59 G12) lkX8_182 (cmRd_sign P W) rfl rfl rfl (fun _ => dsC_150 P W _) nn150 rfl (Nat.le_of_ble_eq_true rfl) (Nat.le_of_ble_eq_true rfl) (fun _ => rfl) rfl (fun z13 G14 => ?_)
  refine r_aload_n 158 0 dX8_assignment_157 rfl rfl rfl ?_
  refine r_get 161 (aR 110) dX8_assignment_158 fkX8_19 (fun _ => dsC_150 P W _) nn150 rfl rfl ?_
  refine r_gets 164 12 dX8_assignment_161 q1304 rfl rfl ?_
  refine r_iload_n 165 1 dX8_assignment_164 rfl rfl rfl ?_
  refine r_iload_n 166 2 dX8_assignment_165 rfl rfl rfl ?_
  refine r_iload 168 3 dX8_assignment_166 rfl rfl ?_
  refine SS.phi (fun VV_ => Rd_assignment_b176 VV_ x3 x2 12 G14) ?_
  refine r_if_eq 175 171 dX8_assignment_168 rfl rfl ?_ ?_
  · refine r_iconst 176 0 dX8_assignment_175 rfl rfl ?_
    refine r_to [] [] rfl ?_
    exact s_Rd_assignment_b176 P W 0 x3 x2 12 G14
  · refine r_iconst 172 1 dX8_assignment_171 rfl rfl ?_
    refine r_goto 176 dX8_assignment_172 rfl ?_
    refine r_to [] [] rfl ?_
    exact s_Rd_assignment_b176 P W 1 x3 x2 12 G14
theorem s_Rd_assignment_b51 (P W : Int) (x2 : Int) (x3 : Int) (s0 : Int) (G : St) : SS (MRd_assignment P W) some 51 [(0, aR 150), (2, aI x2), (3, aI x3)] [aI s0] G (Rd_assignment_b51 x2 x3 s0 G) := by
  refine r_istore 53 [(4, aI s0), (0, aR 150), (2, aI x2), (3, aI x3)] dX8_assignment_51 rfl rfl rfl ?_
  refine r_iload 55 0 dX8_assignment_53 rfl rfl ?_
  refine r_if_eq 127 58 dX8_assignment_55 rfl rfl ?_ ?_
  · refine r_aload_n 128 1 dX8_assignment_127 rfl rfl rfl ?_
    refine r_get 131 (aR 110) dX8_assignment_128 fkX8_19 (fun _ => dsC_150 P W _) nn150 rfl rfl ?_
    refine r_gets 134 9 dX8_assignment_131 q1302 rfl rfl ?_
    refine r_iload_n 135 2 dX8_assignment_134 rfl rfl rfl ?_
    refine r_iload_n 136 3 dX8_assignment_135 rfl rfl rfl ?_
    refine r_iconst 137 0 dX8_assignment_136 rfl rfl ?_
    refine r_callvI 140 (Mc := MCd_add P W) (o := 110) (as := [aR 9, aI x2, aI x3, aI 0]) (st := []) dX8_assignment_137 rfl (c_Cd_add P W 9 x2 x3 0 G) lkX8_154 (cmCd_add P W) rfl rfl rfl (fun _ => dsC_110 P W _) nn110 rfl (Nat.le_of_ble_eq_true rfl) (Nat.le_of_ble_eq_true rfl) (fun _ => rfl) rfl (fun z7 G8 => ?_)
    refine r_istore_n 141 [(1, aI z7), (4, aI s0), (0, aR 150), (2, aI x2), (3, aI x3)] dX8_assignment_140 rfl rfl rfl rfl ?_
    refine r_to [2, 3, 4, 1] [(0, aR 150), (2, aI x2), (3, aI x3), (4, aI s0)] rfl ?_
    exact s_Rd_assignment_b141 P W x2 x3 s0 G8
  · refine r_aload_n 59 1 dX8_assignment_58 rfl rfl rfl ?_
    refine r_get 62 (aR 110) dX8_assignment_59 fkX8_19 (fun _ => dsC_150 P W _) nn150 rfl rfl ?_
    refine r_gets 65 10 dX8_assignment_62 q1298 rfl rfl ?_
    refine r_iload_n 66 2 dX8_assignment_65 rfl rfl rfl ?_
    refine r_iload_n 67 3 dX8_assignment_66 rfl rfl rfl ?_
    refine r_iconst 68 0 dX8_assignment_67 rfl rfl ?_
    refine r_callvI 71 (Mc := MCd_add P W) (o := 110) (as := [aR 10, aI x2, aI x3, aI 0]) (st := []) dX8_assignment_68 rfl (c_Cd_add P W 10 x2 x3 0 G) lkX8_154 (cmCd_add P W) rfl rfl rfl (fun _ => dsC_110 P W _) nn110 rfl (Nat.le_of_ble_eq_true rfl) (Nat.le_of_ble_eq_true rfl) (fun _ => rfl) rfl (fun z17 G18 => ?_)
    refine r_istore_n 72 [(1, aI z17), (4, aI s0), (0, aR 150), (2, aI x2), (3, aI x3)] dX8_assignment_71 rfl rfl rfl rfl ?_
    refine r_aload_n 73 2 dX8_assignment_72 rfl rfl rfl ?_
    refine r_aload_n 74 2 dX8_assignment_73 rfl rfl rfl ?_
    refine r_get 77 (aI (G18 150 2)) dX8_assignment_74 fkX8_31 (fun _ => dsC_150 P W _) nn150 rfl rfl ?_
    refine r_callvV 80 (Mc := MRd_enter P W) (o := 150) (as := [aI (G18 150 2)]) (st := []) dX8_assignment_77 rfl (c_Rd_enter P W (G18 150 2) G18) lkX8_254 (cmRd_enter P W) rfl rfl rfl (fun _ => dsC_150 P W _) nn150 rfl (Nat.le_of_ble_eq_true rfl) (Nat.le_of_ble_eq_true rfl) (fun _ => rfl) rfl (fun z19 G20 => ?_)
    refine r_aload_n 81 2 dX8_assignment_80 rfl rfl rfl ?_
    refine r_dup 82 dX8_assignment_81 rfl rfl ?_
    refine r_get 85 (aI (G20 150 2)) dX8_assignment_82 fkX8_31 (fun _ => dsC_150 P W _) nn150 rfl rfl ?_
    refine r_iconst 86 1 dX8_assignment_85 rfl rfl ?_
    refine r_iadd 87 dX8_assignment_86 rfl ?_
    refine r_putI 90 dX8_assignment_87 fkX8_31 (fun _ => dsC_150 P W _) nn150 rfl rfl ?_
    refine ss_tk (fun G21 => ?_)
    refine r_aload_n 91 2 dX8_assignment_90 rfl rfl rfl ?_
    refine r_callvV 94 (Mc := MRd_expr P W DX) (o := 150) (as := []) (st := []) dX8_assignment_91 rfl (c_Rd_expr P W DX G21) lkX8_211 (cmRd_expr P W DX) rfl rfl rfl (fun _ => dsC_150 P W _) nn150 rfl (Nat.le_of_ble_eq_true rfl) (Nat.le_of_ble_eq_true rfl) (fun _ => rfl) rfl (fun z22 G23 => ?_)
    refine r_aload_n 95 2 dX8_assignment_94 rfl rfl rfl ?_
    refine r_bipush 97 93 dX8_assignment_95 rfl rfl ?_
    refine r_callvV 100 (Mc := MRd_sign P W) (o := 150) (as := [aI 93]) (st := []) dX8_assignment_97 rfl (c_Rd_sign P W 93 G23) lkX8_182 (cmRd_sign P W) rfl rfl rfl (fun _ => dsC_150 P W _) nn150 rfl (Nat.le_of_ble_eq_true rfl) (Nat.le_of_ble_eq_true rfl) (fun _ => rfl) rfl (fun z24 G25 => ?_)
    refine r_aload_n 101 2 dX8_assignment_100 rfl rfl rfl ?_
    refine r_dup 102 dX8_assignment_101 rfl rfl ?_
    refine r_get 105 (aI (G25 150 3)) dX8_assignment_102 fkX8_130 (fun _ => dsC_150 P W _) nn150 rfl rfl ?_
    refine r_iconst 106 1 dX8_assignment_105 rfl rfl ?_
    refine r_isub 107 dX8_assignment_106 rfl ?_
    refine r_putI 110 dX8_assignment_107 fkX8_130 (fun _ => dsC_150 P W _) nn150 rfl rfl ?_
    refine ss_tk (fun G26 => ?_)
    refine r_aload_n 111 2 dX8_assignment_110 rfl rfl rfl ?_
    refine r_get 114 (aR 110) dX8_assignment_111 fkX8_19 (fun _ => dsC_150 P W _) nn150 rfl rfl ?_
    refine r_gets 117 11 dX8_assignment_114 q1300 rfl rfl ?_
    refine r_iload_n 118 3 dX8_assignment_117 rfl rfl rfl ?_
    refine r_iload_n 119 4 dX8_assignment_118 rfl rfl rfl ?_
    refine r_iconst 120 0 dX8_assignment_119 rfl rfl ?_
    refine r_callvI 123 (Mc := MCd_add P W) (o := 110) (as := [aR 11, aI x2, aI x3, aI 0]) (st := []) dX8_assignment_120 rfl (c_Cd_add P W 11 x2 x3 0 G26) lkX8_154 (cmCd_add P W) rfl rfl rfl (fun _ => dsC_110 P W _) nn110 rfl (Nat.le_of_ble_eq_true rfl) (Nat.le_of_ble_eq_true rfl) (fun _ => rfl) rfl (fun z27 G28 => ?_)
    refine r_istore_n 124 [(1, aI z27), (4, aI s0), (0, aR 150), (2, aI x2), (3, aI x3)] dX8_assignment_123 rfl rfl rfl rfl ?_
    refine r_goto 141 dX8_assignment_124 rfl ?_
    refine r_to [2, 3, 4, 1] [(0, aR 150), (2, aI x2), (3, aI x3), (4, aI s0)] rfl ?_
    exact s_Rd_assignment_b141 P W x2 x3 s0 G28
theorem s_Rd_assignment (P W : Int) (G : St) : SS (MRd_assignment P W) some 0 [(0, aR 150)] [] G (Rd_assignment G) := by
  refine r_aload_n 1 0 dX8_assignment_0 rfl rfl rfl ?_
  refine r_get 4 (aR 110) dX8_assignment_1 fkX8_19 (fun _ => dsC_150 P W _) nn150 rfl rfl ?_
  refine r_gets 7 6 dX8_assignment_4 q1254 rfl rfl ?_
  refine r_iconst 8 0 dX8_assignment_7 rfl rfl ?_
  refine r_aload_n 9 0 dX8_assignment_8 rfl rfl rfl ?_
  refine r_get 12 (aI (G 150 2)) dX8_assignment_9 fkX8_31 (fun _ => dsC_150 P W _) nn150 rfl rfl ?_
  refine r_iconst 13 0 dX8_assignment_12 rfl rfl ?_
  refine r_callvI 16 (Mc := MCd_add P W) (o := 110) (as := [aR 6, aI 0, aI (G 150 2), aI 0]) (st := []) dX8_assignment_13 rfl (c_Cd_add P W 6 0 (G 150 2) 0 G) lkX8_154 (cmCd_add P W) rfl rfl rfl (fun _ => dsC_110 P W _) nn110 rfl (Nat.le_of_ble_eq_true rfl) (Nat.le_of_ble_eq_true rfl) (fun _ => rfl) rfl (fun z1 G2 => ?_)
  refine r_istore_n 17 [(1, aI z1), (0, aR 150)] dX8_assignment_16 rfl rfl rfl rfl ?_
  refine r_aload_n 18 1 dX8_assignment_17 rfl rfl rfl ?_
  refine r_callvI 21 (Mc := MRd_name P W) (o := 150) (as := []) (st := []) dX8_assignment_18 rfl (c_Rd_name P W G2) lkX8_186 (cmRd_name P W) rfl rfl rfl (fun _ => dsC_150 P W _) nn150 rfl (Nat.le_of_ble_eq_true rfl) (Nat.le_of_ble_eq_true rfl) (fun _ => rfl) rfl (fun z3 G4 => ?_)
  refine r_istore_n 22 [(2, aI z3), (1, aI z1), (0, aR 150)] dX8_assignment_21 rfl rfl rfl rfl ?_
  refine r_aload_n 23 2 dX8_assignment_22 rfl rfl rfl ?_
  refine r_get 26 (aI (G4 150 10)) dX8_assignment_23 fkX8_114 (fun _ => dsC_150 P W _) nn150 rfl rfl ?_
  refine r_istore_n 27 [(3, aI (G4 150 10)), (2, aI z3), (1, aI z1), (0, aR 150)] dX8_assignment_26 rfl rfl rfl rfl ?_
  refine r_aload_n 28 3 dX8_assignment_27 rfl rfl rfl ?_
  refine r_get 31 (aR 130) dX8_assignment_28 fkX8_27 (fun _ => dsC_150 P W _) nn150 rfl rfl ?_
  refine r_callvI 34 (Mc := MFt_is P W) (o := 130) (as := []) (st := []) dX8_assignment_31 rfl (c_Ft_is P W G4) lkX8_96 (cmFt_is P W) rfl rfl rfl (fun _ => dsC_130 P W _) nn130 rfl (Nat.le_of_ble_eq_true rfl) (Nat.le_of_ble_eq_true rfl) (fun _ => rfl) rfl (fun z5 G6 => ?_)
  refine r_if_ne 50 37 dX8_assignment_34 rfl rfl ?_ ?_
  · refine r_iconst 51 0 dX8_assignment_50 rfl rfl ?_
    refine r_to [3, 1, 0] [(0, aR 150), (2, aI z3), (3, aI (G4 150 10))] rfl ?_
    exact s_Rd_assignment_b51 P W z3 (G4 150 10) 0 G6
  · refine r_aload_n 38 3 dX8_assignment_37 rfl rfl rfl ?_
    refine r_bipush 40 91 dX8_assignment_38 rfl rfl ?_
    refine r_callvI 43 (Mc := MRd_isSign P W) (o := 150) (as := [aI 91]) (st := []) dX8_assignment_40 rfl (c_Rd_isSign P W 91 G6) lkX8_107 (cmRd_isSign P W) rfl rfl rfl (fun _ => dsC_150 P W _) nn150 rfl (Nat.le_of_ble_eq_true rfl) (Nat.le_of_ble_eq_true rfl) (fun _ => rfl) rfl (fun z29 G30 => ?_)
    refine SS.phi (fun VV_ => Rd_assignment_b51 z3 (G4 150 10) VV_ G30) ?_
    refine r_if_eq 50 46 dX8_assignment_43 rfl rfl ?_ ?_
    · refine r_iconst 51 0 dX8_assignment_50 rfl rfl ?_
      refine r_to [3, 1, 0] [(0, aR 150), (2, aI z3), (3, aI (G4 150 10))] rfl ?_
      exact s_Rd_assignment_b51 P W z3 (G4 150 10) 0 G30
    · refine r_iconst 47 1 dX8_assignment_46 rfl rfl ?_
      refine r_goto 51 dX8_assignment_47 rfl ?_
      refine r_to [3, 1, 0] [(0, aR 150), (2, aI z3), (3, aI (G4 150 10))] rfl ?_
      exact s_Rd_assignment_b51 P W z3 (G4 150 10) 1 G30
theorem c_Rd_assignment (P W : Int) (G : St) : MG (MRd_assignment P W) [aR 150] G (Rd_assignment G) := MG.of plX8 (Nat.le_of_ble_eq_true rfl) (s_Rd_assignment P W G)
theorem s_Rd_variable_b148 (P W : Int) (x3 : Int) (x4 : Int) (s0 : Int) (s1 : Int) (s2 : Int) (G : St) : SS (MRd_variable P W) some 148 [(3, aI x3), (4, aI x4)] [aI s0, aI s1, aR s2, aR 110] G (Rd_variable_b148 x3 x4 s0 s1 s2 G) := by
  refine r_iconst 149 2 dX8_variable_148 rfl rfl ?_
  refine r_iload 151 1 dX8_variable_149 rfl rfl ?_
  refine r_imul 152 dX8_variable_151 rfl ?_
  refine r_iload_n 153 0 dX8_variable_152 rfl rfl rfl ?_
  refine r_iadd 154 dX8_variable_153 rfl ?_
  refine r_callvI 157 (Mc := MCd_add P W) (o := 110) (as := [aR s2, aI s1, aI s0, aI ((2 * x4) + x3)]) (st := []) dX8_variable_154 rfl (c_Cd_add P W s2 s1 s0 ((2 * x4) + x3) G) lkX8_154 (cmCd_add P W) rfl rfl rfl (fun _ => dsC_110 P W _) nn110 rfl (Nat.le_of_ble_eq_true rfl) (Nat.le_of_ble_eq_true rfl) (fun _ => rfl) rfl (fun z17 G18 => ?_)
  refine r_istore 159 [(5, aI z17), (3, aI x3), (4, aI x4)] dX8_variable_157 rfl rfl rfl ?_
  exact r_return dX8_variable_159 rfl
theorem s_Rd_variable_b124 (P W : Int) (x1 : Int) (x3 : Int) (x4 : Int) (x6 : Int) (G : St) : SS (MRd_variable P W) some 124 [(0, aR 150), (1, aI x1), (3, aI x3), (4, aI x4), (6, aI x6)] [] G (Rd_variable_b124 x1 x3 x4 x6 G) := by
  refine r_aload_n 125 0 dX8_variable_124 rfl rfl rfl ?_
  refine r_bipush 127 59 dX8_variable_125 rfl rfl ?_
  refine r_callvV 130 (Mc := MRd_sign P W) (o := 150) (as := [aI 59]) (st := []) dX8_variable_127 rfl (c_Rd_sign P W 59 G) lkX8_182 (cmRd_sign P W) rfl rfl rfl (fun _ => dsC_150 P W _) nn150 rfl (Nat.le_of_ble_eq_true rfl) (Nat.le_of_ble_eq_true rfl) (fun _ => rfl) rfl (fun z15 G16 => ?_)
  refine r_aload_n 131 0 dX8_variable_130 rfl rfl rfl ?_
  refine r_get 134 (aR 110) dX8_variable_131 fkX8_19 (fun _ => dsC_150 P W _) nn150 rfl rfl ?_
  refine r_gets 137 8 dX8_variable_134 q1262 rfl rfl ?_
  refine r_iload_n 138 1 dX8_variable_137 rfl rfl rfl ?_
  refine r_iload 140 4 dX8_variable_138 rfl rfl ?_
  refine SS.phi (fun VV_ => Rd_variable_b148 x3 x4 VV_ x1 8 G16) ?_
  refine r_if_eq 147 143 dX8_variable_140 rfl rfl ?_ ?_
  · refine r_iconst 148 0 dX8_variable_147 rfl rfl ?_
    refine r_to [2, 3] [(3, aI x3), (4, aI x4)] rfl ?_
    exact s_Rd_variable_b148 P W x3 x4 0 x1 8 G16
  · refine r_iconst 144 1 dX8_variable_143 rfl rfl ?_
    refine r_goto 148 dX8_variable_144 rfl ?_
    refine r_to [2, 3] [(3, aI x3), (4, aI x4)] rfl ?_
    exact s_Rd_variable_b148 P W x3 x4 1 x1 8 G16
theorem s_Rd_variable_b86 (P W : Int) (x1 : Int) (x2 : Int) (x3 : Int) (x4 : Int) (G : St) : SS (MRd_variable P W) some 86 [(0, aR 150), (1, aI x1), (2, aI x2), (3, aI x3), (4, aI x4)] [] G (Rd_variable_b86 x1 x2 x3 x4 G) := by
  refine r_aload_n 87 0 dX8_variable_86 rfl rfl rfl ?_
  refine r_get 90 (aR 110) dX8_variable_87 fkX8_19 (fun _ => dsC_150 P W _) nn150 rfl rfl ?_
  refine r_gets 93 7 dX8_variable_90 q1260 rfl rfl ?_
  refine r_iload_n 94 1 dX8_variable_93 rfl rfl rfl ?_
  refine r_iload_n 95 2 dX8_variable_94 rfl rfl rfl ?_
  refine r_iconst 96 0 dX8_variable_95 rfl rfl ?_
  refine r_callvI 99 (Mc := MCd_add P W) (o := 110) (as := [aR 7, aI x1, aI x2, aI 0]) (st := []) dX8_variable_96 rfl (c_Cd_add P W 7 x1 x2 0 G) lkX8_154 (cmCd_add P W) rfl rfl rfl (fun _ => dsC_110 P W _) nn110 rfl (Nat.le_of_ble_eq_true rfl) (Nat.le_of_ble_eq_true rfl) (fun _ => rfl) rfl (fun z11 G12 => ?_)
  refine r_istore 101 [(5, aI z11), (0, aR 150), (1, aI x1), (2, aI x2), (3, aI x3), (4, aI x4)] dX8_variable_99 rfl rfl rfl ?_
  refine r_aload_n 102 1 dX8_variable_101 rfl rfl rfl ?_
  refine r_bipush 104 61 dX8_variable_102 rfl rfl ?_
  refine r_callvI 107 (Mc := MRd_isSign P W) (o := 150) (as := [aI 61]) (st := []) dX8_variable_104 rfl (c_Rd_isSign P W 61 G12) lkX8_107 (cmRd_isSign P W) rfl rfl rfl (fun _ => dsC_150 P W _) nn150 rfl (Nat.le_of_ble_eq_true rfl) (Nat.le_of_ble_eq_true rfl) (fun _ => rfl) rfl (fun z13 G14 => ?_)
  refine r_istore 109 [(6, aI z13), (5, aI z11), (0, aR 150), (1, aI x1), (2, aI x2), (3, aI x3), (4, aI x4)] dX8_variable_107 rfl rfl rfl ?_
  refine r_iload 111 0 dX8_variable_109 rfl rfl ?_
  refine r_if_eq 124 114 dX8_variable_111 rfl rfl ?_ ?_
  · refine r_to [2, 3, 5, 6, 0] [(0, aR 150), (1, aI x1), (3, aI x3), (4, aI x4), (6, aI z13)] rfl ?_
    exact s_Rd_variable_b124 P W x1 x3 x4 z13 G14
  · refine r_aload_n 115 2 dX8_variable_114 rfl rfl rfl ?_
    refine r_bipush 117 61 dX8_variable_115 rfl rfl ?_
    refine r_callvV 120 (Mc := MRd_sign P W) (o := 150) (as := [aI 61]) (st := []) dX8_variable_117 rfl (c_Rd_sign P W 61 G14) lkX8_182 (cmRd_sign P W) rfl rfl rfl (fun _ => dsC_150 P W _) nn150 rfl (Nat.le_of_ble_eq_true rfl) (Nat.le_of_ble_eq_true rfl) (fun _ => rfl) rfl (fun z19 G20 => ?_)
    refine r_aload_n 121 2 dX8_variable_120 rfl rfl rfl ?_
    refine r_callvV 124 (Mc := MRd_expr P W DX) (o := 150) (as := []) (st := []) dX8_variable_121 rfl (c_Rd_expr P W DX G20) lkX8_211 (cmRd_expr P W DX) rfl rfl rfl (fun _ => dsC_150 P W _) nn150 rfl (Nat.le_of_ble_eq_true rfl) (Nat.le_of_ble_eq_true rfl) (fun _ => rfl) rfl (fun z21 G22 => ?_)
    refine r_to [2, 3, 5, 6, 0] [(0, aR 150), (1, aI x1), (3, aI x3), (4, aI x4), (6, aI z13)] rfl ?_
    exact s_Rd_variable_b124 P W x1 x3 x4 z13 G22
theorem s_Rd_variable (P W : Int) (G : St) : SS (MRd_variable P W) some 0 [(0, aR 150)] [] G (Rd_variable G) := by
  refine r_aload_n 1 0 dX8_variable_0 rfl rfl rfl ?_
  refine r_dup 2 dX8_variable_1 rfl rfl ?_
  refine r_get 5 (aI (G 150 2)) dX8_variable_2 fkX8_31 (fun _ => dsC_150 P W _) nn150 rfl rfl ?_
  refine r_iconst 6 3 dX8_variable_5 rfl rfl ?_
  refine r_iadd 7 dX8_variable_6 rfl ?_
  refine r_putI 10 dX8_variable_7 fkX8_31 (fun _ => dsC_150 P W _) nn150 rfl rfl ?_
  refine ss_tk (fun G1 => ?_)
  refine r_aload_n 11 0 dX8_variable_10 rfl rfl rfl ?_
  refine r_callvI 14 (Mc := MRd_name P W) (o := 150) (as := []) (st := []) dX8_variable_11 rfl (c_Rd_name P W G1) lkX8_186 (cmRd_name P W) rfl rfl rfl (fun _ => dsC_150 P W _) nn150 rfl (Nat.le_of_ble_eq_true rfl) (Nat.le_of_ble_eq_true rfl) (fun _ => rfl) rfl (fun z2 G3 => ?_)
  refine r_istore_n 15 [(1, aI z2), (0, aR 150)] dX8_variable_14 rfl rfl rfl rfl ?_
  refine r_aload_n 16 1 dX8_variable_15 rfl rfl rfl ?_
  refine r_get 19 (aI (G3 150 10)) dX8_variable_16 fkX8_114 (fun _ => dsC_150 P W _) nn150 rfl rfl ?_
  refine r_istore_n 20 [(2, aI (G3 150 10)), (1, aI z2), (0, aR 150)] dX8_variable_19 rfl rfl rfl rfl ?_
  refine r_aload_n 21 2 dX8_variable_20 rfl rfl rfl ?_
  refine r_bipush 23 58 dX8_variable_21 rfl rfl ?_
  refine r_callvV 26 (Mc := MRd_sign P W) (o := 150) (as := [aI 58]) (st := []) dX8_variable_23 rfl (c_Rd_sign P W 58 G3) lkX8_182 (cmRd_sign P W) rfl rfl rfl (fun _ => dsC_150 P W _) nn150 rfl (Nat.le_of_ble_eq_true rfl) (Nat.le_of_ble_eq_true rfl) (fun _ => rfl) rfl (fun z4 G5 => ?_)
  refine r_aload_n 27 2 dX8_variable_26 rfl rfl rfl ?_
  refine r_callvV 30 (Mc := MRd_type P W) (o := 150) (as := []) (st := []) dX8_variable_27 rfl (c_Rd_type P W G5) lkX8_193 (cmRd_type P W) rfl rfl rfl (fun _ => dsC_150 P W _) nn150 rfl (Nat.le_of_ble_eq_true rfl) (Nat.le_of_ble_eq_true rfl) (fun _ => rfl) rfl (fun z6 G7 => ?_)
  refine r_aload_n 31 2 dX8_variable_30 rfl rfl rfl ?_
  refine r_get 34 (aR 130) dX8_variable_31 fkX8_27 (fun _ => dsC_150 P W _) nn150 rfl rfl ?_
  refine r_callvI 37 (Mc := MFt_is P W) (o := 130) (as := []) (st := []) dX8_variable_34 rfl (c_Ft_is P W G7) lkX8_96 (cmFt_is P W) rfl rfl rfl (fun _ => dsC_130 P W _) nn130 rfl (Nat.le_of_ble_eq_true rfl) (Nat.le_of_ble_eq_true rfl) (fun _ => rfl) rfl (fun z8 G9 => ?_)
  refine r_if_eq 41 40 dX8_variable_37 rfl rfl ?_ ?_
  · refine r_aload_n 42 2 dX8_variable_41 rfl rfl rfl ?_
    refine r_get 45 (aI (G9 150 11)) dX8_variable_42 fkX8_172 (fun _ => dsC_150 P W _) nn150 rfl rfl ?_
    refine r_istore_n 46 [(3, aI (G9 150 11)), (2, aI (G3 150 10)), (1, aI z2), (0, aR 150)] dX8_variable_45 rfl rfl rfl rfl ?_
    refine r_aload_n 47 3 dX8_variable_46 rfl rfl rfl ?_
    refine r_get 50 (aI (G9 150 12)) dX8_variable_47 fkX8_174 (fun _ => dsC_150 P W _) nn150 rfl rfl ?_
    refine r_istore 52 [(4, aI (G9 150 12)), (3, aI (G9 150 11)), (2, aI (G3 150 10)), (1, aI z2), (0, aR 150)] dX8_variable_50 rfl rfl rfl ?_
    refine r_aload_n 53 4 dX8_variable_52 rfl rfl rfl ?_
    refine r_dup 54 dX8_variable_53 rfl rfl ?_
    refine r_get 57 (aI (G9 150 5)) dX8_variable_54 fkX8_142 (fun _ => dsC_150 P W _) nn150 rfl rfl ?_
    refine r_iconst 58 1 dX8_variable_57 rfl rfl ?_
    refine r_iload 60 0 dX8_variable_58 rfl rfl ?_
    refine r_mmax 63 dX8_variable_60 q1102 (Nat.le_of_ble_eq_true rfl) (Nat.le_of_ble_eq_true rfl) rfl rfl ?_
    refine r_iadd 64 dX8_variable_63 rfl ?_
    refine r_putI 67 dX8_variable_64 fkX8_142 (fun _ => dsC_150 P W _) nn150 rfl rfl ?_
    refine ss_tk (fun G10 => ?_)
    refine r_aload_n 68 4 dX8_variable_67 rfl rfl rfl ?_
    refine r_get 71 (aI (G10 150 5)) dX8_variable_68 fkX8_142 (fun _ => dsC_150 P W _) nn150 rfl rfl ?_
    refine r_sipush 74 256 dX8_variable_71 rfl rfl ?_
    refine r_icmp_le 86 77 dX8_variable_74 rfl rfl ?_ ?_
    · refine r_to [4, 3, 2, 1, 0] [(0, aR 150), (1, aI z2), (2, aI (G3 150 10)), (3, aI (G9 150 11)), (4, aI (G9 150 12))] rfl ?_
      exact s_Rd_variable_b86 P W z2 (G3 150 10) (G9 150 11) (G9 150 12) G10
    · refine r_aload_n 78 4 dX8_variable_77 rfl rfl rfl ?_
      refine r_get 81 (aR 130) dX8_variable_78 fkX8_27 (fun _ => dsC_150 P W _) nn150 rfl rfl ?_
      refine r_iconst 82 2 dX8_variable_81 rfl rfl ?_
      refine r_iload_n 83 2 dX8_variable_82 rfl rfl rfl ?_
      refine r_callvV 86 (Mc := MFt_set P W) (o := 130) (as := [aI 2, aI (G3 150 10)]) (st := []) dX8_variable_83 rfl (c_Ft_set P W 2 (G3 150 10) G10) lkX8_37 (cmFt_set P W) rfl rfl rfl (fun _ => dsC_130 P W _) nn130 rfl (Nat.le_of_ble_eq_true rfl) (Nat.le_of_ble_eq_true rfl) (fun _ => rfl) rfl (fun z23 G24 => ?_)
      refine r_to [4, 3, 2, 1, 0] [(0, aR 150), (1, aI z2), (2, aI (G3 150 10)), (3, aI (G9 150 11)), (4, aI (G9 150 12))] rfl ?_
      exact s_Rd_variable_b86 P W z2 (G3 150 10) (G9 150 11) (G9 150 12) G24
  · exact r_return dX8_variable_40 rfl
theorem c_Rd_variable (P W : Int) (G : St) : MG (MRd_variable P W) [aR 150] G (Rd_variable G) := MG.of plX8 (Nat.le_of_ble_eq_true rfl) (s_Rd_variable P W G)
theorem s_Rd_statement (P W : Int) (d : Nat) (Rf : Nat → List Int → St → Option (Int × St)) (hRf : HRS P W d Rf) (G : St) : SS (MRd_statement P W (d + 1)) some 0 [(0, aR 150)] [] G (Rd_statement Rf G) := by
  refine r_aload_n 1 0 dX8_statement_0 rfl rfl rfl ?_
  refine r_get 4 (aI (G 150 2)) dX8_statement_1 fkX8_31 (fun _ => dsC_150 P W _) nn150 rfl rfl ?_
  refine r_istore_n 5 [(1, aI (G 150 2)), (0, aR 150)] dX8_statement_4 rfl rfl rfl rfl ?_
  refine r_aload_n 6 1 dX8_statement_5 rfl rfl rfl ?_
  refine r_ldcs 8 2 dX8_statement_6 q1039 rfl rfl rfl ?_
  refine r_callvI 11 (Mc := MRd_isWord P W) (o := 150) (as := [aR 72]) (st := []) dX8_statement_8 rfl (c_Rd_isWord P W 72 G) lkX8_65 (cmRd_isWord P W) rfl rfl rfl (fun _ => dsC_150 P W _) nn150 rfl (by simp only [mF, mW, mN, DX, MRd_statement, MRd_isWord]; omega) (by simp only [mF, mW, mN, DX, MRd_statement, MRd_isWord]; omega) (fun _ => rfl) rfl (fun z1 G2 => ?_)
  refine r_if_eq 35 14 dX8_statement_11 rfl rfl ?_ ?_
  · refine r_aload_n 36 1 dX8_statement_35 rfl rfl rfl ?_
    refine r_ldcs 38 6 dX8_statement_36 q1043 rfl rfl rfl ?_
    refine r_callvI 41 (Mc := MRd_isWord P W) (o := 150) (as := [aR 76]) (st := []) dX8_statement_38 rfl (c_Rd_isWord P W 76 G2) lkX8_65 (cmRd_isWord P W) rfl rfl rfl (fun _ => dsC_150 P W _) nn150 rfl (by simp only [mF, mW, mN, DX, MRd_statement, MRd_isWord]; omega) (by simp only [mF, mW, mN, DX, MRd_statement, MRd_isWord]; omega) (fun _ => rfl) rfl (fun z3 G4 => ?_)
    refine r_if_eq 51 44 dX8_statement_41 rfl rfl ?_ ?_
    · refine r_aload_n 52 1 dX8_statement_51 rfl rfl rfl ?_
      refine r_ldcs 54 4 dX8_statement_52 q1041 rfl rfl rfl ?_
      refine r_callvI 57 (Mc := MRd_isWord P W) (o := 150) (as := [aR 74]) (st := []) dX8_statement_54 rfl (c_Rd_isWord P W 74 G4) lkX8_65 (cmRd_isWord P W) rfl rfl rfl (fun _ => dsC_150 P W _) nn150 rfl (by simp only [mF, mW, mN, DX, MRd_statement, MRd_isWord]; omega) (by simp only [mF, mW, mN, DX, MRd_statement, MRd_isWord]; omega) (fun _ => rfl) rfl (fun z5 G6 => ?_)
      refine r_if_eq 67 60 dX8_statement_57 rfl rfl ?_ ?_
      · refine r_aload_n 68 1 dX8_statement_67 rfl rfl rfl ?_
        refine r_callvV 71 (Mc := MRd_assignment P W) (o := 150) (as := []) (st := []) dX8_statement_68 rfl (c_Rd_assignment P W G6) lkX8_242 (cmRd_assignment P W) rfl rfl rfl (fun _ => dsC_150 P W _) nn150 rfl (by simp only [mF, mW, mN, DX, MRd_statement, MRd_assignment]; omega) (by simp only [mF, mW, mN, DX, MRd_statement, MRd_assignment]; omega) (fun _ => rfl) rfl (fun z7 G8 => ?_)
        exact r_return dX8_statement_71 rfl
      · refine r_aload_n 61 1 dX8_statement_60 rfl rfl rfl ?_
        refine r_callvV 64 (Mc := MRd_loop P W d) (o := 150) (as := []) (st := []) dX8_statement_61 rfl (hRf.2.2.2 G6) lkX8_239 (cmRd_loop P W d) rfl rfl rfl (fun _ => dsC_150 P W _) nn150 rfl (by simp only [mF, mW, mN, DX, MRd_statement, MRd_loop]; omega) (by simp only [mF, mW, mN, DX, MRd_statement, MRd_loop]; omega) (fun _ => rfl) rfl (fun z9 G10 => ?_)
        refine r_goto 71 dX8_statement_64 rfl ?_
        exact r_return dX8_statement_71 rfl
    · refine r_aload_n 45 1 dX8_statement_44 rfl rfl rfl ?_
      refine r_callvV 48 (Mc := MRd_condition P W d) (o := 150) (as := []) (st := []) dX8_statement_45 rfl (hRf.2.2.1 G4) lkX8_236 (cmRd_condition P W d) rfl rfl rfl (fun _ => dsC_150 P W _) nn150 rfl (by simp only [mF, mW, mN, DX, MRd_statement, MRd_condition]; omega) (by simp only [mF, mW, mN, DX, MRd_statement, MRd_condition]; omega) (fun _ => rfl) rfl (fun z11 G12 => ?_)
      refine r_goto 71 dX8_statement_48 rfl ?_
      exact r_return dX8_statement_71 rfl
  · refine r_aload_n 15 1 dX8_statement_14 rfl rfl rfl ?_
    refine r_get 18 (aR 110) dX8_statement_15 fkX8_19 (fun _ => dsC_150 P W _) nn150 rfl rfl ?_
    refine r_gets 21 6 dX8_statement_18 q1254 rfl rfl ?_
    refine r_iconst 22 0 dX8_statement_21 rfl rfl ?_
    refine r_iload_n 23 0 dX8_statement_22 rfl rfl rfl ?_
    refine r_iconst 24 0 dX8_statement_23 rfl rfl ?_
    refine r_callvI 27 (Mc := MCd_add P W) (o := 110) (as := [aR 6, aI 0, aI (G 150 2), aI 0]) (st := []) dX8_statement_24 rfl (c_Cd_add P W 6 0 (G 150 2) 0 G2) lkX8_154 (cmCd_add P W) rfl rfl rfl (fun _ => dsC_110 P W _) nn110 rfl (by simp only [mF, mW, mN, DX, MRd_statement, MCd_add]; omega) (by simp only [mF, mW, mN, DX, MRd_statement, MCd_add]; omega) (fun _ => rfl) rfl (fun z13 G14 => ?_)
    refine r_istore_n 28 [(2, aI z13), (1, aI (G 150 2)), (0, aR 150)] dX8_statement_27 rfl rfl rfl rfl ?_
    refine r_aload_n 29 2 dX8_statement_28 rfl rfl rfl ?_
    refine r_callvV 32 (Mc := MRd_variable P W) (o := 150) (as := []) (st := []) dX8_statement_29 rfl (c_Rd_variable P W G14) lkX8_233 (cmRd_variable P W) rfl rfl rfl (fun _ => dsC_150 P W _) nn150 rfl (by simp only [mF, mW, mN, DX, MRd_statement, MRd_variable]; omega) (by simp only [mF, mW, mN, DX, MRd_statement, MRd_variable]; omega) (fun _ => rfl) rfl (fun z15 G16 => ?_)
    refine r_goto 71 dX8_statement_32 rfl ?_
    exact r_return dX8_statement_71 rfl
theorem s_Rd_block_b91 (P W : Int) (d : Nat) (Rf : Nat → List Int → St → Option (Int × St)) (hRf : HRS P W d Rf) (G : St) : SS (MRd_block P W (d + 1)) some 91 [(0, aR 150)] [] G (Rd_block_b91 Rf G) := by
  refine r_aload_n 92 0 dX8_block_91 rfl rfl rfl ?_
  refine r_dup 93 dX8_block_92 rfl rfl ?_
  refine r_get 96 (aI (G 150 2)) dX8_block_93 fkX8_31 (fun _ => dsC_150 P W _) nn150 rfl rfl ?_
  refine r_iconst 97 1 dX8_block_96 rfl rfl ?_
  refine r_iadd 98 dX8_block_97 rfl ?_
  refine r_putI 101 dX8_block_98 fkX8_31 (fun _ => dsC_150 P W _) nn150 rfl rfl ?_
  refine ss_tk (fun G14 => ?_)
  refine r_aload_n 102 0 dX8_block_101 rfl rfl rfl ?_
  refine r_dup 103 dX8_block_102 rfl rfl ?_
  refine r_get 106 (aI (G14 150 3)) dX8_block_103 fkX8_130 (fun _ => dsC_150 P W _) nn150 rfl rfl ?_
  refine r_iconst 107 1 dX8_block_106 rfl rfl ?_
  refine r_isub 108 dX8_block_107 rfl ?_
  refine r_putI 111 dX8_block_108 fkX8_130 (fun _ => dsC_150 P W _) nn150 rfl rfl ?_
  refine ss_tk (fun G15 => ?_)
  refine r_aload_n 112 0 dX8_block_111 rfl rfl rfl ?_
  refine r_get 115 (aR 110) dX8_block_112 fkX8_19 (fun _ => dsC_150 P W _) nn150 rfl rfl ?_
  refine r_gets 118 21 dX8_block_115 q1276 rfl rfl ?_
  refine r_iconst 119 0 dX8_block_118 rfl rfl ?_
  refine r_aload_n 120 0 dX8_block_119 rfl rfl rfl ?_
  refine r_get 123 (aI (G15 150 2)) dX8_block_120 fkX8_31 (fun _ => dsC_150 P W _) nn150 rfl rfl ?_
  refine r_iconst 124 0 dX8_block_123 rfl rfl ?_
  refine r_callvI 127 (Mc := MCd_add P W) (o := 110) (as := [aR 21, aI 0, aI (G15 150 2), aI 0]) (st := []) dX8_block_124 rfl (c_Cd_add P W 21 0 (G15 150 2) 0 G15) lkX8_154 (cmCd_add P W) rfl rfl rfl (fun _ => dsC_110 P W _) nn110 rfl (by simp only [mF, mW, mN, DX, MRd_block, MCd_add]; omega) (by simp only [mF, mW, mN, DX, MRd_block, MCd_add]; omega) (fun _ => rfl) rfl (fun z16 G17 => ?_)
  refine r_istore_n 128 [(1, aI z16), (0, aR 150)] dX8_block_127 rfl rfl rfl rfl ?_
  exact r_return dX8_block_128 rfl
theorem s_Rd_block_s65 (P W : Int) (d : Nat) (Rf : Nat → List Int → St → Option (Int × St)) (hRf : HRS P W d Rf) (X65 : St → Option (Int × St)) (hX65 : ∀ s, So (MRd_block P W (d + 1)) 65 [(0, aR 150)] [] s (X65 s)) (G : St) : SS (MRd_block P W (d + 1)) (lk X65 some) 65 [(0, aR 150)] [] G (Rd_block_s65 Rf G) := by
  refine r_aload_n 66 0 dX8_block_65 rfl rfl rfl ?_
  refine r_get 69 (aR 130) dX8_block_66 fkX8_27 (fun _ => dsC_150 P W _) nn150 rfl rfl ?_
  refine r_callvI 72 (Mc := MFt_is P W) (o := 130) (as := []) (st := []) dX8_block_69 rfl (c_Ft_is P W G) lkX8_96 (cmFt_is P W) rfl rfl rfl (fun _ => dsC_130 P W _) nn130 rfl (by simp only [mF, mW, mN, DX, MRd_block, MFt_is]; omega) (by simp only [mF, mW, mN, DX, MRd_block, MFt_is]; omega) (fun _ => rfl) rfl (fun z12 G13 => ?_)
  refine r_if_ne 91 75 dX8_block_72 rfl rfl ?_ ?_
  · refine SS.ex ?_
    exact s_Rd_block_b91 P W d Rf hRf G13
  · refine r_aload_n 76 0 dX8_block_75 rfl rfl rfl ?_
    refine r_bipush 78 125 dX8_block_76 rfl rfl ?_
    refine r_callvI 81 (Mc := MRd_isSign P W) (o := 150) (as := [aI 125]) (st := []) dX8_block_78 rfl (c_Rd_isSign P W 125 G13) lkX8_107 (cmRd_isSign P W) rfl rfl rfl (fun _ => dsC_150 P W _) nn150 rfl (by simp only [mF, mW, mN, DX, MRd_block, MRd_isSign]; omega) (by simp only [mF, mW, mN, DX, MRd_block, MRd_isSign]; omega) (fun _ => rfl) rfl (fun z18 G19 => ?_)
    refine r_if_ne 91 84 dX8_block_81 rfl rfl ?_ ?_
    · refine SS.ex ?_
      exact s_Rd_block_b91 P W d Rf hRf G19
    · refine r_aload_n 85 0 dX8_block_84 rfl rfl rfl ?_
      refine r_callvV 88 (Mc := MRd_statement P W d) (o := 150) (as := []) (st := []) dX8_block_85 rfl (hRf.1 G19) lkX8_166 (cmRd_statement P W d) rfl rfl rfl (fun _ => dsC_150 P W _) nn150 rfl (by simp only [mF, mW, mN, DX, MRd_block, MRd_statement]; omega) (by simp only [mF, mW, mN, DX, MRd_block, MRd_statement]; omega) (fun _ => rfl) rfl (fun z20 G21 => ?_)
      refine r_goto 65 dX8_block_88 rfl ?_
      exact SS.back (hX65 (G21))
theorem sl_Rd_block_65 (P W : Int) (d : Nat) (Rf : Nat → List Int → St → Option (Int × St)) (hRf : HRS P W d Rf) (G : St) : SS (MRd_block P W (d + 1)) some 65 [(0, aR 150)] [] G (Rd_block_l65 Rf G) := by
  exact SS.loop (σ := St) (fun s => [(0, aR 150)]) (fun s => s) (fun s => Rd_block_s65 Rf s) (fun X65 hX65 s => s_Rd_block_s65 P W d Rf hRf   X65 hX65 s) (G)
theorem s_Rd_block (P W : Int) (d : Nat) (Rf : Nat → List Int → St → Option (Int × St)) (hRf : HRS P W d Rf) (G : St) : SS (MRd_block P W (d + 1)) some 0 [(0, aR 150)] [] G (Rd_block Rf G) := by
  refine r_aload_n 1 0 dX8_block_0 rfl rfl rfl ?_
  refine r_callvV 4 (Mc := MRd_skip P W) (o := 150) (as := []) (st := []) dX8_block_1 rfl (c_Rd_skip P W G) lkX8_93 (cmRd_skip P W) rfl rfl rfl (fun _ => dsC_150 P W _) nn150 rfl (by simp only [mF, mW, mN, DX, MRd_block, MRd_skip]; omega) (by simp only [mF, mW, mN, DX, MRd_block, MRd_skip]; omega) (fun _ => rfl) rfl (fun z1 G2 => ?_)
  refine r_aload_n 5 0 dX8_block_4 rfl rfl rfl ?_
  refine r_get 8 (aR 130) dX8_block_5 fkX8_27 (fun _ => dsC_150 P W _) nn150 rfl rfl ?_
  refine r_callvI 11 (Mc := MFt_is P W) (o := 130) (as := []) (st := []) dX8_block_8 rfl (c_Ft_is P W G2) lkX8_96 (cmFt_is P W) rfl rfl rfl (fun _ => dsC_130 P W _) nn130 rfl (by simp only [mF, mW, mN, DX, MRd_block, MFt_is]; omega) (by simp only [mF, mW, mN, DX, MRd_block, MFt_is]; omega) (fun _ => rfl) rfl (fun z3 G4 => ?_)
  refine r_if_eq 15 14 dX8_block_11 rfl rfl ?_ ?_
  · refine r_aload_n 16 0 dX8_block_15 rfl rfl rfl ?_
    refine r_iconst 17 0 dX8_block_16 rfl rfl ?_
    refine r_callvI 20 (Mc := MRd_look P W) (o := 150) (as := [aI 0]) (st := []) dX8_block_17 rfl (c_Rd_look P W 0 G4) lkX8_103 (cmRd_look P W) rfl rfl rfl (fun _ => dsC_150 P W _) nn150 rfl (by simp only [mF, mW, mN, DX, MRd_block, MRd_look]; omega) (by simp only [mF, mW, mN, DX, MRd_block, MRd_look]; omega) (fun _ => rfl) rfl (fun z5 G6 => ?_)
    refine r_bipush 22 123 dX8_block_20 rfl rfl ?_
    refine r_icmp_eq 30 25 dX8_block_22 rfl rfl ?_ ?_
    · refine r_aload_n 31 0 dX8_block_30 rfl rfl rfl ?_
      refine r_aload_n 32 0 dX8_block_31 rfl rfl rfl ?_
      refine r_get 35 (aI (G6 150 2)) dX8_block_32 fkX8_31 (fun _ => dsC_150 P W _) nn150 rfl rfl ?_
      refine r_callvV 38 (Mc := MRd_enter P W) (o := 150) (as := [aI (G6 150 2)]) (st := []) dX8_block_35 rfl (c_Rd_enter P W (G6 150 2) G6) lkX8_254 (cmRd_enter P W) rfl rfl rfl (fun _ => dsC_150 P W _) nn150 rfl (by simp only [mF, mW, mN, DX, MRd_block, MRd_enter]; omega) (by simp only [mF, mW, mN, DX, MRd_block, MRd_enter]; omega) (fun _ => rfl) rfl (fun z7 G8 => ?_)
      refine r_aload_n 39 0 dX8_block_38 rfl rfl rfl ?_
      refine r_dup 40 dX8_block_39 rfl rfl ?_
      refine r_get 43 (aI (G8 150 2)) dX8_block_40 fkX8_31 (fun _ => dsC_150 P W _) nn150 rfl rfl ?_
      refine r_iconst 44 1 dX8_block_43 rfl rfl ?_
      refine r_iadd 45 dX8_block_44 rfl ?_
      refine r_putI 48 dX8_block_45 fkX8_31 (fun _ => dsC_150 P W _) nn150 rfl rfl ?_
      refine ss_tk (fun G9 => ?_)
      refine r_aload_n 49 0 dX8_block_48 rfl rfl rfl ?_
      refine r_get 52 (aR 110) dX8_block_49 fkX8_19 (fun _ => dsC_150 P W _) nn150 rfl rfl ?_
      refine r_gets 55 20 dX8_block_52 q1274 rfl rfl ?_
      refine r_iconst 56 0 dX8_block_55 rfl rfl ?_
      refine r_aload_n 57 0 dX8_block_56 rfl rfl rfl ?_
      refine r_get 60 (aI (G9 150 2)) dX8_block_57 fkX8_31 (fun _ => dsC_150 P W _) nn150 rfl rfl ?_
      refine r_iconst 61 0 dX8_block_60 rfl rfl ?_
      refine r_callvI 64 (Mc := MCd_add P W) (o := 110) (as := [aR 20, aI 0, aI (G9 150 2), aI 0]) (st := []) dX8_block_61 rfl (c_Cd_add P W 20 0 (G9 150 2) 0 G9) lkX8_154 (cmCd_add P W) rfl rfl rfl (fun _ => dsC_110 P W _) nn110 rfl (by simp only [mF, mW, mN, DX, MRd_block, MCd_add]; omega) (by simp only [mF, mW, mN, DX, MRd_block, MCd_add]; omega) (fun _ => rfl) rfl (fun z10 G11 => ?_)
      refine r_istore_n 65 [(1, aI z10), (0, aR 150)] dX8_block_64 rfl rfl rfl rfl ?_
      refine r_to [1] [(0, aR 150)] rfl ?_
      exact sl_Rd_block_65 P W d Rf hRf G11
    · refine r_aload_n 26 0 dX8_block_25 rfl rfl rfl ?_
      refine r_callvV 29 (Mc := MRd_bad P W) (o := 150) (as := []) (st := []) dX8_block_26 rfl (c_Rd_bad P W G6) lkX8_100 (cmRd_bad P W) rfl rfl rfl (fun _ => dsC_150 P W _) nn150 rfl (by simp only [mF, mW, mN, DX, MRd_block, MRd_bad]; omega) (by simp only [mF, mW, mN, DX, MRd_block, MRd_bad]; omega) (fun _ => rfl) rfl (fun z22 G23 => ?_)
      exact r_return dX8_block_29 rfl
  · exact r_return dX8_block_14 rfl
theorem s_Rd_condition_b164 (P W : Int) (d : Nat) (Rf : Nat → List Int → St → Option (Int × St)) (hRf : HRS P W d Rf) (x1 : Int) (G : St) : SS (MRd_condition P W (d + 1)) some 164 [(0, aR 150), (1, aI x1)] [] G (Rd_condition_b164 Rf x1 G) := by
  refine r_aload_n 165 0 dX8_condition_164 rfl rfl rfl ?_
  refine r_get 168 (aR 110) dX8_condition_165 fkX8_19 (fun _ => dsC_150 P W _) nn150 rfl rfl ?_
  refine r_gets 171 15 dX8_condition_168 q1280 rfl rfl ?_
  refine r_iconst 172 0 dX8_condition_171 rfl rfl ?_
  refine r_iload_n 173 1 dX8_condition_172 rfl rfl rfl ?_
  refine r_iconst 174 0 dX8_condition_173 rfl rfl ?_
  refine r_callvI 177 (Mc := MCd_add P W) (o := 110) (as := [aR 15, aI 0, aI x1, aI 0]) (st := []) dX8_condition_174 rfl (c_Cd_add P W 15 0 x1 0 G) lkX8_154 (cmCd_add P W) rfl rfl rfl (fun _ => dsC_110 P W _) nn110 rfl (by simp only [mF, mW, mN, DX, MRd_condition, MCd_add]; omega) (by simp only [mF, mW, mN, DX, MRd_condition, MCd_add]; omega) (fun _ => rfl) rfl (fun z17 G18 => ?_)
  refine r_istore_n 178 [(2, aI z17), (0, aR 150), (1, aI x1)] dX8_condition_177 rfl rfl rfl rfl ?_
  exact r_return dX8_condition_178 rfl
theorem s_Rd_condition_b79 (P W : Int) (d : Nat) (Rf : Nat → List Int → St → Option (Int × St)) (hRf : HRS P W d Rf) (x1 : Int) (x3 : Int) (s0 : Int) (G : St) : SS (MRd_condition P W (d + 1)) some 79 [(0, aR 150), (1, aI x1), (3, aI x3)] [aI s0] G (Rd_condition_b79 Rf x1 x3 s0 G) := by
  refine r_istore 81 [(4, aI s0), (0, aR 150), (1, aI x1), (3, aI x3)] dX8_condition_79 rfl rfl rfl ?_
  refine r_aload_n 82 1 dX8_condition_81 rfl rfl rfl ?_
  refine r_get 85 (aR 110) dX8_condition_82 fkX8_19 (fun _ => dsC_150 P W _) nn150 rfl rfl ?_
  refine r_gets 88 14 dX8_condition_85 q1278 rfl rfl ?_
  refine r_iconst 89 0 dX8_condition_88 rfl rfl ?_
  refine r_iload_n 90 2 dX8_condition_89 rfl rfl rfl ?_
  refine r_iconst 91 0 dX8_condition_90 rfl rfl ?_
  refine r_callvI 94 (Mc := MCd_add P W) (o := 110) (as := [aR 14, aI 0, aI x1, aI 0]) (st := []) dX8_condition_91 rfl (c_Cd_add P W 14 0 x1 0 G) lkX8_154 (cmCd_add P W) rfl rfl rfl (fun _ => dsC_110 P W _) nn110 rfl (by simp only [mF, mW, mN, DX, MRd_condition, MCd_add]; omega) (by simp only [mF, mW, mN, DX, MRd_condition, MCd_add]; omega) (fun _ => rfl) rfl (fun z14 G15 => ?_)
  refine r_istore 96 [(5, aI z14), (4, aI s0), (0, aR 150), (1, aI x1), (3, aI x3)] dX8_condition_94 rfl rfl rfl ?_
  refine r_aload_n 97 2 dX8_condition_96 rfl rfl rfl ?_
  refine r_get 100 (aR 110) dX8_condition_97 fkX8_19 (fun _ => dsC_150 P W _) nn150 rfl rfl ?_
  refine r_get 103 (aR 114) dX8_condition_100 fkX8_217 (fun _ => dsC_110 P W _) nn110 rfl rfl ?_
  refine r_iload_n 104 4 dX8_condition_103 rfl rfl rfl ?_
  refine r_iload 106 0 dX8_condition_104 rfl rfl ?_
  refine r_iast 107 dX8_condition_106 (fun _ _ _ => dsC_114 P W _) (fun _ _ => nn114) rfl ?_
  refine ss_tk (fun G16 => ?_)
  refine r_iload 109 1 dX8_condition_107 rfl rfl ?_
  refine r_if_eq 164 112 dX8_condition_109 rfl rfl ?_ ?_
  · refine r_to [2, 3] [(0, aR 150), (1, aI x1)] rfl ?_
    exact s_Rd_condition_b164 P W d Rf hRf x1 G16
  · refine r_aload_n 113 2 dX8_condition_112 rfl rfl rfl ?_
    refine r_dup 114 dX8_condition_113 rfl rfl ?_
    refine r_get 117 (aI (G16 150 2)) dX8_condition_114 fkX8_31 (fun _ => dsC_150 P W _) nn150 rfl rfl ?_
    refine r_iconst 118 4 dX8_condition_117 rfl rfl ?_
    refine r_iadd 119 dX8_condition_118 rfl ?_
    refine r_putI 122 dX8_condition_119 fkX8_31 (fun _ => dsC_150 P W _) nn150 rfl rfl ?_
    refine ss_tk (fun G19 => ?_)
    refine r_aload_n 123 2 dX8_condition_122 rfl rfl rfl ?_
    refine r_callvV 126 (Mc := MRd_skip P W) (o := 150) (as := []) (st := []) dX8_condition_123 rfl (c_Rd_skip P W G19) lkX8_93 (cmRd_skip P W) rfl rfl rfl (fun _ => dsC_150 P W _) nn150 rfl (by simp only [mF, mW, mN, DX, MRd_condition, MRd_skip]; omega) (by simp only [mF, mW, mN, DX, MRd_condition, MRd_skip]; omega) (fun _ => rfl) rfl (fun z20 G21 => ?_)
    refine r_aload_n 127 2 dX8_condition_126 rfl rfl rfl ?_
    refine r_ldcs 129 6 dX8_condition_127 q1043 rfl rfl rfl ?_
    refine r_callvI 132 (Mc := MRd_isWord P W) (o := 150) (as := [aR 76]) (st := []) dX8_condition_129 rfl (c_Rd_isWord P W 76 G21) lkX8_65 (cmRd_isWord P W) rfl rfl rfl (fun _ => dsC_150 P W _) nn150 rfl (by simp only [mF, mW, mN, DX, MRd_condition, MRd_isWord]; omega) (by simp only [mF, mW, mN, DX, MRd_condition, MRd_isWord]; omega) (fun _ => rfl) rfl (fun z22 G23 => ?_)
    refine r_if_eq 160 135 dX8_condition_132 rfl rfl ?_ ?_
    · refine r_aload_n 161 2 dX8_condition_160 rfl rfl rfl ?_
      refine r_callvV 164 (Mc := MRd_block P W d) (o := 150) (as := []) (st := []) dX8_condition_161 rfl (hRf.2.1 G23) lkX8_278 (cmRd_block P W d) rfl rfl rfl (fun _ => dsC_150 P W _) nn150 rfl (by simp only [mF, mW, mN, DX, MRd_condition, MRd_block]; omega) (by simp only [mF, mW, mN, DX, MRd_condition, MRd_block]; omega) (fun _ => rfl) rfl (fun z24 G25 => ?_)
      refine r_to [2, 3] [(0, aR 150), (1, aI x1)] rfl ?_
      exact s_Rd_condition_b164 P W d Rf hRf x1 G25
    · refine r_aload_n 136 2 dX8_condition_135 rfl rfl rfl ?_
      refine r_aload_n 137 2 dX8_condition_136 rfl rfl rfl ?_
      refine r_get 140 (aI (G23 150 2)) dX8_condition_137 fkX8_31 (fun _ => dsC_150 P W _) nn150 rfl rfl ?_
      refine r_callvV 143 (Mc := MRd_enter P W) (o := 150) (as := [aI (G23 150 2)]) (st := []) dX8_condition_140 rfl (c_Rd_enter P W (G23 150 2) G23) lkX8_254 (cmRd_enter P W) rfl rfl rfl (fun _ => dsC_150 P W _) nn150 rfl (by simp only [mF, mW, mN, DX, MRd_condition, MRd_enter]; omega) (by simp only [mF, mW, mN, DX, MRd_condition, MRd_enter]; omega) (fun _ => rfl) rfl (fun z26 G27 => ?_)
      refine r_aload_n 144 2 dX8_condition_143 rfl rfl rfl ?_
      refine r_callvV 147 (Mc := MRd_condition P W d) (o := 150) (as := []) (st := []) dX8_condition_144 rfl (hRf.2.2.1 G27) lkX8_236 (cmRd_condition P W d) rfl rfl rfl (fun _ => dsC_150 P W _) nn150 rfl (by simp only [mF, mW, mN, DX, MRd_condition, MRd_condition]; omega) (by simp only [mF, mW, mN, DX, MRd_condition, MRd_condition]; omega) (fun _ => rfl) rfl (fun z28 G29 => ?_)
      refine r_aload_n 148 2 dX8_condition_147 rfl rfl rfl ?_
      refine r_dup 149 dX8_condition_148 rfl rfl ?_
      refine r_get 152 (aI (G29 150 3)) dX8_condition_149 fkX8_130 (fun _ => dsC_150 P W _) nn150 rfl rfl ?_
      refine r_iconst 153 1 dX8_condition_152 rfl rfl ?_
      refine r_isub 154 dX8_condition_153 rfl ?_
      refine r_putI 157 dX8_condition_154 fkX8_130 (fun _ => dsC_150 P W _) nn150 rfl rfl ?_
      refine ss_tk (fun G30 => ?_)
      refine r_goto 164 dX8_condition_157 rfl ?_
      refine r_to [2, 3] [(0, aR 150), (1, aI x1)] rfl ?_
      exact s_Rd_condition_b164 P W d Rf hRf x1 G30
theorem s_Rd_condition (P W : Int) (d : Nat) (Rf : Nat → List Int → St → Option (Int × St)) (hRf : HRS P W d Rf) (G : St) : SS (MRd_condition P W (d + 1)) some 0 [(0, aR 150)] [] G (Rd_condition Rf G) := by
  refine r_aload_n 1 0 dX8_condition_0 rfl rfl rfl ?_
  refine r_get 4 (aI (G 150 2)) dX8_condition_1 fkX8_31 (fun _ => dsC_150 P W _) nn150 rfl rfl ?_
  refine r_istore_n 5 [(1, aI (G 150 2)), (0, aR 150)] dX8_condition_4 rfl rfl rfl rfl ?_
  refine r_aload_n 6 1 dX8_condition_5 rfl rfl rfl ?_
  refine r_get 9 (aR 110) dX8_condition_6 fkX8_19 (fun _ => dsC_150 P W _) nn150 rfl rfl ?_
  refine r_gets 12 6 dX8_condition_9 q1254 rfl rfl ?_
  refine r_iconst 13 0 dX8_condition_12 rfl rfl ?_
  refine r_iload_n 14 0 dX8_condition_13 rfl rfl rfl ?_
  refine r_iconst 15 0 dX8_condition_14 rfl rfl ?_
  refine r_callvI 18 (Mc := MCd_add P W) (o := 110) (as := [aR 6, aI 0, aI (G 150 2), aI 0]) (st := []) dX8_condition_15 rfl (c_Cd_add P W 6 0 (G 150 2) 0 G) lkX8_154 (cmCd_add P W) rfl rfl rfl (fun _ => dsC_110 P W _) nn110 rfl (by simp only [mF, mW, mN, DX, MRd_condition, MCd_add]; omega) (by simp only [mF, mW, mN, DX, MRd_condition, MCd_add]; omega) (fun _ => rfl) rfl (fun z1 G2 => ?_)
  refine r_istore_n 19 [(2, aI z1), (1, aI (G 150 2)), (0, aR 150)] dX8_condition_18 rfl rfl rfl rfl ?_
  refine r_aload_n 20 2 dX8_condition_19 rfl rfl rfl ?_
  refine r_dup 21 dX8_condition_20 rfl rfl ?_
  refine r_get 24 (aI (G2 150 2)) dX8_condition_21 fkX8_31 (fun _ => dsC_150 P W _) nn150 rfl rfl ?_
  refine r_iconst 25 2 dX8_condition_24 rfl rfl ?_
  refine r_iadd 26 dX8_condition_25 rfl ?_
  refine r_putI 29 dX8_condition_26 fkX8_31 (fun _ => dsC_150 P W _) nn150 rfl rfl ?_
  refine ss_tk (fun G3 => ?_)
  refine r_aload_n 30 2 dX8_condition_29 rfl rfl rfl ?_
  refine r_callvV 33 (Mc := MRd_around P W DX) (o := 150) (as := []) (st := []) dX8_condition_30 rfl (c_Rd_around P W DX G3) lkX8_272 (cmRd_around P W DX) rfl rfl rfl (fun _ => dsC_150 P W _) nn150 rfl (by simp only [mF, mW, mN, DX, MRd_condition, MRd_around]; omega) (by simp only [mF, mW, mN, DX, MRd_condition, MRd_around]; omega) (fun _ => rfl) rfl (fun z4 G5 => ?_)
  refine r_aload_n 34 2 dX8_condition_33 rfl rfl rfl ?_
  refine r_get 37 (aR 110) dX8_condition_34 fkX8_19 (fun _ => dsC_150 P W _) nn150 rfl rfl ?_
  refine r_gets 40 13 dX8_condition_37 q1268 rfl rfl ?_
  refine r_iconst 41 0 dX8_condition_40 rfl rfl ?_
  refine r_iload_n 42 1 dX8_condition_41 rfl rfl rfl ?_
  refine r_iconst 43 0 dX8_condition_42 rfl rfl ?_
  refine r_callvI 46 (Mc := MCd_add P W) (o := 110) (as := [aR 13, aI 0, aI (G 150 2), aI 0]) (st := []) dX8_condition_43 rfl (c_Cd_add P W 13 0 (G 150 2) 0 G5) lkX8_154 (cmCd_add P W) rfl rfl rfl (fun _ => dsC_110 P W _) nn110 rfl (by simp only [mF, mW, mN, DX, MRd_condition, MCd_add]; omega) (by simp only [mF, mW, mN, DX, MRd_condition, MCd_add]; omega) (fun _ => rfl) rfl (fun z6 G7 => ?_)
  refine r_istore_n 47 [(3, aI z6), (2, aI z1), (1, aI (G 150 2)), (0, aR 150)] dX8_condition_46 rfl rfl rfl rfl ?_
  refine r_aload_n 48 3 dX8_condition_47 rfl rfl rfl ?_
  refine r_callvV 51 (Mc := MRd_block P W d) (o := 150) (as := []) (st := []) dX8_condition_48 rfl (hRf.2.1 G7) lkX8_278 (cmRd_block P W d) rfl rfl rfl (fun _ => dsC_150 P W _) nn150 rfl (by simp only [mF, mW, mN, DX, MRd_condition, MRd_block]; omega) (by simp only [mF, mW, mN, DX, MRd_condition, MRd_block]; omega) (fun _ => rfl) rfl (fun z8 G9 => ?_)
  refine r_aload_n 52 3 dX8_condition_51 rfl rfl rfl ?_
  refine r_callvV 55 (Mc := MRd_skip P W) (o := 150) (as := []) (st := []) dX8_condition_52 rfl (c_Rd_skip P W G9) lkX8_93 (cmRd_skip P W) rfl rfl rfl (fun _ => dsC_150 P W _) nn150 rfl (by simp only [mF, mW, mN, DX, MRd_condition, MRd_skip]; omega) (by simp only [mF, mW, mN, DX, MRd_condition, MRd_skip]; omega) (fun _ => rfl) rfl (fun z10 G11 => ?_)
  refine r_aload_n 56 3 dX8_condition_55 rfl rfl rfl ?_
  refine r_get 59 (aR 130) dX8_condition_56 fkX8_27 (fun _ => dsC_150 P W _) nn150 rfl rfl ?_
  refine r_callvI 62 (Mc := MFt_is P W) (o := 130) (as := []) (st := []) dX8_condition_59 rfl (c_Ft_is P W G11) lkX8_96 (cmFt_is P W) rfl rfl rfl (fun _ => dsC_130 P W _) nn130 rfl (by simp only [mF, mW, mN, DX, MRd_condition, MFt_is]; omega) (by simp only [mF, mW, mN, DX, MRd_condition, MFt_is]; omega) (fun _ => rfl) rfl (fun z12 G13 => ?_)
  refine r_if_ne 78 65 dX8_condition_62 rfl rfl ?_ ?_
  · refine r_iconst 79 0 dX8_condition_78 rfl rfl ?_
    refine r_to [3, 2, 0] [(0, aR 150), (1, aI (G 150 2)), (3, aI z6)] rfl ?_
    exact s_Rd_condition_b79 P W d Rf hRf (G 150 2) z6 0 G13
  · refine r_aload_n 66 3 dX8_condition_65 rfl rfl rfl ?_
    refine r_ldcs 68 7 dX8_condition_66 q1044 rfl rfl rfl ?_
    refine r_callvI 71 (Mc := MRd_isWord P W) (o := 150) (as := [aR 77]) (st := []) dX8_condition_68 rfl (c_Rd_isWord P W 77 G13) lkX8_65 (cmRd_isWord P W) rfl rfl rfl (fun _ => dsC_150 P W _) nn150 rfl (by simp only [mF, mW, mN, DX, MRd_condition, MRd_isWord]; omega) (by simp only [mF, mW, mN, DX, MRd_condition, MRd_isWord]; omega) (fun _ => rfl) rfl (fun z31 G32 => ?_)
    refine SS.phi (fun VV_ => Rd_condition_b79 Rf (G 150 2) z6 VV_ G32) ?_
    refine r_if_eq 78 74 dX8_condition_71 rfl rfl ?_ ?_
    · refine r_iconst 79 0 dX8_condition_78 rfl rfl ?_
      refine r_to [3, 2, 0] [(0, aR 150), (1, aI (G 150 2)), (3, aI z6)] rfl ?_
      exact s_Rd_condition_b79 P W d Rf hRf (G 150 2) z6 0 G32
    · refine r_iconst 75 1 dX8_condition_74 rfl rfl ?_
      refine r_goto 79 dX8_condition_75 rfl ?_
      refine r_to [3, 2, 0] [(0, aR 150), (1, aI (G 150 2)), (3, aI z6)] rfl ?_
      exact s_Rd_condition_b79 P W d Rf hRf (G 150 2) z6 1 G32
theorem s_Rd_loop (P W : Int) (d : Nat) (Rf : Nat → List Int → St → Option (Int × St)) (hRf : HRS P W d Rf) (G : St) : SS (MRd_loop P W (d + 1)) some 0 [(0, aR 150)] [] G (Rd_loop Rf G) := by
  refine r_aload_n 1 0 dX8_loop_0 rfl rfl rfl ?_
  refine r_get 4 (aI (G 150 2)) dX8_loop_1 fkX8_31 (fun _ => dsC_150 P W _) nn150 rfl rfl ?_
  refine r_istore_n 5 [(1, aI (G 150 2)), (0, aR 150)] dX8_loop_4 rfl rfl rfl rfl ?_
  refine r_aload_n 6 1 dX8_loop_5 rfl rfl rfl ?_
  refine r_get 9 (aR 110) dX8_loop_6 fkX8_19 (fun _ => dsC_150 P W _) nn150 rfl rfl ?_
  refine r_gets 12 6 dX8_loop_9 q1254 rfl rfl ?_
  refine r_iconst 13 0 dX8_loop_12 rfl rfl ?_
  refine r_iload_n 14 0 dX8_loop_13 rfl rfl rfl ?_
  refine r_iconst 15 0 dX8_loop_14 rfl rfl ?_
  refine r_callvI 18 (Mc := MCd_add P W) (o := 110) (as := [aR 6, aI 0, aI (G 150 2), aI 0]) (st := []) dX8_loop_15 rfl (c_Cd_add P W 6 0 (G 150 2) 0 G) lkX8_154 (cmCd_add P W) rfl rfl rfl (fun _ => dsC_110 P W _) nn110 rfl (by simp only [mF, mW, mN, DX, MRd_loop, MCd_add]; omega) (by simp only [mF, mW, mN, DX, MRd_loop, MCd_add]; omega) (fun _ => rfl) rfl (fun z1 G2 => ?_)
  refine r_istore_n 19 [(2, aI z1), (1, aI (G 150 2)), (0, aR 150)] dX8_loop_18 rfl rfl rfl rfl ?_
  refine r_aload_n 20 2 dX8_loop_19 rfl rfl rfl ?_
  refine r_dup 21 dX8_loop_20 rfl rfl ?_
  refine r_get 24 (aI (G2 150 2)) dX8_loop_21 fkX8_31 (fun _ => dsC_150 P W _) nn150 rfl rfl ?_
  refine r_iconst 25 3 dX8_loop_24 rfl rfl ?_
  refine r_iadd 26 dX8_loop_25 rfl ?_
  refine r_putI 29 dX8_loop_26 fkX8_31 (fun _ => dsC_150 P W _) nn150 rfl rfl ?_
  refine ss_tk (fun G3 => ?_)
  refine r_aload_n 30 2 dX8_loop_29 rfl rfl rfl ?_
  refine r_callvI 33 (Mc := MRd_name P W) (o := 150) (as := []) (st := []) dX8_loop_30 rfl (c_Rd_name P W G3) lkX8_186 (cmRd_name P W) rfl rfl rfl (fun _ => dsC_150 P W _) nn150 rfl (by simp only [mF, mW, mN, DX, MRd_loop, MRd_name]; omega) (by simp only [mF, mW, mN, DX, MRd_loop, MRd_name]; omega) (fun _ => rfl) rfl (fun z4 G5 => ?_)
  refine r_istore_n 34 [(3, aI z4), (2, aI z1), (1, aI (G 150 2)), (0, aR 150)] dX8_loop_33 rfl rfl rfl rfl ?_
  refine r_aload_n 35 3 dX8_loop_34 rfl rfl rfl ?_
  refine r_get 38 (aR 110) dX8_loop_35 fkX8_19 (fun _ => dsC_150 P W _) nn150 rfl rfl ?_
  refine r_gets 41 16 dX8_loop_38 q1286 rfl rfl ?_
  refine r_iload_n 42 0 dX8_loop_41 rfl rfl rfl ?_
  refine r_aload_n 43 3 dX8_loop_42 rfl rfl rfl ?_
  refine r_get 46 (aI (G5 150 10)) dX8_loop_43 fkX8_114 (fun _ => dsC_150 P W _) nn150 rfl rfl ?_
  refine r_iconst 47 0 dX8_loop_46 rfl rfl ?_
  refine r_callvI 50 (Mc := MCd_add P W) (o := 110) (as := [aR 16, aI z4, aI (G5 150 10), aI 0]) (st := []) dX8_loop_47 rfl (c_Cd_add P W 16 z4 (G5 150 10) 0 G5) lkX8_154 (cmCd_add P W) rfl rfl rfl (fun _ => dsC_110 P W _) nn110 rfl (by simp only [mF, mW, mN, DX, MRd_loop, MCd_add]; omega) (by simp only [mF, mW, mN, DX, MRd_loop, MCd_add]; omega) (fun _ => rfl) rfl (fun z6 G7 => ?_)
  refine r_istore_n 51 [(2, aI z6), (3, aI z4), (1, aI (G 150 2)), (0, aR 150)] dX8_loop_50 rfl rfl rfl rfl ?_
  refine r_aload_n 52 3 dX8_loop_51 rfl rfl rfl ?_
  refine r_bipush 54 61 dX8_loop_52 rfl rfl ?_
  refine r_callvV 57 (Mc := MRd_sign P W) (o := 150) (as := [aI 61]) (st := []) dX8_loop_54 rfl (c_Rd_sign P W 61 G7) lkX8_182 (cmRd_sign P W) rfl rfl rfl (fun _ => dsC_150 P W _) nn150 rfl (by simp only [mF, mW, mN, DX, MRd_loop, MRd_sign]; omega) (by simp only [mF, mW, mN, DX, MRd_loop, MRd_sign]; omega) (fun _ => rfl) rfl (fun z8 G9 => ?_)
  refine r_aload_n 58 3 dX8_loop_57 rfl rfl rfl ?_
  refine r_callvV 61 (Mc := MRd_expr P W DX) (o := 150) (as := []) (st := []) dX8_loop_58 rfl (c_Rd_expr P W DX G9) lkX8_211 (cmRd_expr P W DX) rfl rfl rfl (fun _ => dsC_150 P W _) nn150 rfl (by simp only [mF, mW, mN, DX, MRd_loop, MRd_expr]; omega) (by simp only [mF, mW, mN, DX, MRd_loop, MRd_expr]; omega) (fun _ => rfl) rfl (fun z10 G11 => ?_)
  refine r_aload_n 62 3 dX8_loop_61 rfl rfl rfl ?_
  refine r_get 65 (aR 110) dX8_loop_62 fkX8_19 (fun _ => dsC_150 P W _) nn150 rfl rfl ?_
  refine r_gets 68 17 dX8_loop_65 q1288 rfl rfl ?_
  refine r_iconst 69 0 dX8_loop_68 rfl rfl ?_
  refine r_iload_n 70 2 dX8_loop_69 rfl rfl rfl ?_
  refine r_iconst 71 0 dX8_loop_70 rfl rfl ?_
  refine r_callvI 74 (Mc := MCd_add P W) (o := 110) (as := [aR 17, aI 0, aI (G 150 2), aI 0]) (st := []) dX8_loop_71 rfl (c_Cd_add P W 17 0 (G 150 2) 0 G11) lkX8_154 (cmCd_add P W) rfl rfl rfl (fun _ => dsC_110 P W _) nn110 rfl (by simp only [mF, mW, mN, DX, MRd_loop, MCd_add]; omega) (by simp only [mF, mW, mN, DX, MRd_loop, MCd_add]; omega) (fun _ => rfl) rfl (fun z12 G13 => ?_)
  refine r_istore_n 75 [(2, aI z12), (3, aI z4), (1, aI (G 150 2)), (0, aR 150)] dX8_loop_74 rfl rfl rfl rfl ?_
  refine r_aload_n 76 3 dX8_loop_75 rfl rfl rfl ?_
  refine r_ldcs 78 5 dX8_loop_76 q1042 rfl rfl rfl ?_
  refine r_callvV 81 (Mc := MRd_word P W) (o := 150) (as := [aR 75]) (st := []) dX8_loop_78 rfl (c_Rd_word P W 75 G13) lkX8_189 (cmRd_word P W) rfl rfl rfl (fun _ => dsC_150 P W _) nn150 rfl (by simp only [mF, mW, mN, DX, MRd_loop, MRd_word]; omega) (by simp only [mF, mW, mN, DX, MRd_loop, MRd_word]; omega) (fun _ => rfl) rfl (fun z14 G15 => ?_)
  refine r_aload_n 82 3 dX8_loop_81 rfl rfl rfl ?_
  refine r_callvV 85 (Mc := MRd_expr P W DX) (o := 150) (as := []) (st := []) dX8_loop_82 rfl (c_Rd_expr P W DX G15) lkX8_211 (cmRd_expr P W DX) rfl rfl rfl (fun _ => dsC_150 P W _) nn150 rfl (by simp only [mF, mW, mN, DX, MRd_loop, MRd_expr]; omega) (by simp only [mF, mW, mN, DX, MRd_loop, MRd_expr]; omega) (fun _ => rfl) rfl (fun z16 G17 => ?_)
  refine r_aload_n 86 3 dX8_loop_85 rfl rfl rfl ?_
  refine r_get 89 (aR 110) dX8_loop_86 fkX8_19 (fun _ => dsC_150 P W _) nn150 rfl rfl ?_
  refine r_gets 92 17 dX8_loop_89 q1288 rfl rfl ?_
  refine r_iconst 93 0 dX8_loop_92 rfl rfl ?_
  refine r_iload_n 94 2 dX8_loop_93 rfl rfl rfl ?_
  refine r_iconst 95 0 dX8_loop_94 rfl rfl ?_
  refine r_callvI 98 (Mc := MCd_add P W) (o := 110) (as := [aR 17, aI 0, aI (G 150 2), aI 0]) (st := []) dX8_loop_95 rfl (c_Cd_add P W 17 0 (G 150 2) 0 G17) lkX8_154 (cmCd_add P W) rfl rfl rfl (fun _ => dsC_110 P W _) nn110 rfl (by simp only [mF, mW, mN, DX, MRd_loop, MCd_add]; omega) (by simp only [mF, mW, mN, DX, MRd_loop, MCd_add]; omega) (fun _ => rfl) rfl (fun z18 G19 => ?_)
  refine r_istore_n 99 [(2, aI z18), (3, aI z4), (1, aI (G 150 2)), (0, aR 150)] dX8_loop_98 rfl rfl rfl rfl ?_
  refine r_aload_n 100 3 dX8_loop_99 rfl rfl rfl ?_
  refine r_get 103 (aR 110) dX8_loop_100 fkX8_19 (fun _ => dsC_150 P W _) nn150 rfl rfl ?_
  refine r_gets 106 18 dX8_loop_103 q1290 rfl rfl ?_
  refine r_iload_n 107 1 dX8_loop_106 rfl rfl rfl ?_
  refine r_iload_n 108 2 dX8_loop_107 rfl rfl rfl ?_
  refine r_iconst 109 0 dX8_loop_108 rfl rfl ?_
  refine r_callvI 112 (Mc := MCd_add P W) (o := 110) (as := [aR 18, aI z4, aI (G 150 2), aI 0]) (st := []) dX8_loop_109 rfl (c_Cd_add P W 18 z4 (G 150 2) 0 G19) lkX8_154 (cmCd_add P W) rfl rfl rfl (fun _ => dsC_110 P W _) nn110 rfl (by simp only [mF, mW, mN, DX, MRd_loop, MCd_add]; omega) (by simp only [mF, mW, mN, DX, MRd_loop, MCd_add]; omega) (fun _ => rfl) rfl (fun z20 G21 => ?_)
  refine r_istore 114 [(4, aI z20), (2, aI z18), (3, aI z4), (1, aI (G 150 2)), (0, aR 150)] dX8_loop_112 rfl rfl rfl ?_
  refine r_aload_n 115 4 dX8_loop_114 rfl rfl rfl ?_
  refine r_callvV 118 (Mc := MRd_block P W d) (o := 150) (as := []) (st := []) dX8_loop_115 rfl (hRf.2.1 G21) lkX8_278 (cmRd_block P W d) rfl rfl rfl (fun _ => dsC_150 P W _) nn150 rfl (by simp only [mF, mW, mN, DX, MRd_loop, MRd_block]; omega) (by simp only [mF, mW, mN, DX, MRd_loop, MRd_block]; omega) (fun _ => rfl) rfl (fun z22 G23 => ?_)
  refine r_aload_n 119 4 dX8_loop_118 rfl rfl rfl ?_
  refine r_get 122 (aR 110) dX8_loop_119 fkX8_19 (fun _ => dsC_150 P W _) nn150 rfl rfl ?_
  refine r_gets 125 19 dX8_loop_122 q1292 rfl rfl ?_
  refine r_iload_n 126 2 dX8_loop_125 rfl rfl rfl ?_
  refine r_iload_n 127 3 dX8_loop_126 rfl rfl rfl ?_
  refine r_iload 129 0 dX8_loop_127 rfl rfl ?_
  refine r_callvI 132 (Mc := MCd_add P W) (o := 110) (as := [aR 19, aI z4, aI (G 150 2), aI z20]) (st := []) dX8_loop_129 rfl (c_Cd_add P W 19 z4 (G 150 2) z20 G23) lkX8_154 (cmCd_add P W) rfl rfl rfl (fun _ => dsC_110 P W _) nn110 rfl (by simp only [mF, mW, mN, DX, MRd_loop, MCd_add]; omega) (by simp only [mF, mW, mN, DX, MRd_loop, MCd_add]; omega) (fun _ => rfl) rfl (fun z24 G25 => ?_)
  refine r_istore 134 [(5, aI z24), (4, aI z20), (2, aI z18), (3, aI z4), (1, aI (G 150 2)), (0, aR 150)] dX8_loop_132 rfl rfl rfl ?_
  refine r_aload_n 135 5 dX8_loop_134 rfl rfl rfl ?_
  refine r_get 138 (aR 110) dX8_loop_135 fkX8_19 (fun _ => dsC_150 P W _) nn150 rfl rfl ?_
  refine r_get 141 (aR 114) dX8_loop_138 fkX8_217 (fun _ => dsC_110 P W _) nn110 rfl rfl ?_
  refine r_iload 143 1 dX8_loop_141 rfl rfl ?_
  refine r_iload 145 0 dX8_loop_143 rfl rfl ?_
  refine r_iast 146 dX8_loop_145 (fun _ _ _ => dsC_114 P W _) (fun _ _ => nn114) rfl ?_
  refine ss_tk (fun G26 => ?_)
  exact r_return dX8_loop_146 rfl
theorem cRS (P W : Int) : ∀ d, HRS P W d (RS d)
  | 0 => ⟨(fun  _ _ _ _ _ ho => nomatch (show (none : Option (Int × St)) = some _ from ho)), (fun  _ _ _ _ _ ho => nomatch (show (none : Option (Int × St)) = some _ from ho)), (fun  _ _ _ _ _ ho => nomatch (show (none : Option (Int × St)) = some _ from ho)), (fun  _ _ _ _ _ ho => nomatch (show (none : Option (Int × St)) = some _ from ho))⟩
  | d + 1 => ⟨fun  G => MG.of (M := MRd_statement P W (d + 1)) plX8 (Nat.le_of_ble_eq_true rfl) (s_Rd_statement P W d (RS d) (cRS P W d)  G), fun  G => MG.of (M := MRd_block P W (d + 1)) plX8 (Nat.le_of_ble_eq_true rfl) (s_Rd_block P W d (RS d) (cRS P W d)  G), fun  G => MG.of (M := MRd_condition P W (d + 1)) plX8 (Nat.le_of_ble_eq_true rfl) (s_Rd_condition P W d (RS d) (cRS P W d)  G), fun  G => MG.of (M := MRd_loop P W (d + 1)) plX8 (Nat.le_of_ble_eq_true rfl) (s_Rd_loop P W d (RS d) (cRS P W d)  G)⟩
theorem c_Rd_statement (P W : Int) (d : Nat) (G : St) : MG (MRd_statement P W d) [aR 150] G (RS d 0 [] G) := (cRS P W d).1 G
theorem c_Rd_block (P W : Int) (d : Nat) (G : St) : MG (MRd_block P W d) [aR 150] G (RS d 1 [] G) := (cRS P W d).2.1 G
theorem c_Rd_condition (P W : Int) (d : Nat) (G : St) : MG (MRd_condition P W d) [aR 150] G (RS d 2 [] G) := (cRS P W d).2.2.1 G
theorem c_Rd_loop (P W : Int) (d : Nat) (G : St) : MG (MRd_loop P W d) [aR 150] G (RS d 3 [] G) := (cRS P W d).2.2.2 G
theorem s_Rd_item (P W : Int) (G : St) : SS (MRd_item P W) some 0 [(0, aR 150)] [] G (Rd_item P W G) := by
  refine r_aload_n 1 0 dX8_item_0 rfl rfl rfl ?_
  refine r_ldcs 3 0 dX8_item_1 q963 rfl rfl rfl ?_
  refine r_callvI 6 (Mc := MRd_isWord P W) (o := 150) (as := [aR 70]) (st := []) dX8_item_3 rfl (c_Rd_isWord P W 70 G) lkX8_65 (cmRd_isWord P W) rfl rfl rfl (fun _ => dsC_150 P W _) nn150 rfl (Nat.le_of_ble_eq_true rfl) (Nat.le_of_ble_eq_true rfl) (fun _ => rfl) rfl (fun z1 G2 => ?_)
  refine r_if_eq 16 9 dX8_item_6 rfl rfl ?_ ?_
  · refine r_aload_n 17 0 dX8_item_16 rfl rfl rfl ?_
    refine r_ldcs 19 3 dX8_item_17 q1040 rfl rfl rfl ?_
    refine r_callvI 22 (Mc := MRd_isWord P W) (o := 150) (as := [aR 73]) (st := []) dX8_item_19 rfl (c_Rd_isWord P W 73 G2) lkX8_65 (cmRd_isWord P W) rfl rfl rfl (fun _ => dsC_150 P W _) nn150 rfl (Nat.le_of_ble_eq_true rfl) (Nat.le_of_ble_eq_true rfl) (fun _ => rfl) rfl (fun z3 G4 => ?_)
    refine r_if_eq 32 25 dX8_item_22 rfl rfl ?_ ?_
    · refine r_aload_n 33 0 dX8_item_32 rfl rfl rfl ?_
      refine r_ldcs 35 8 dX8_item_33 q1045 rfl rfl rfl ?_
      refine r_callvI 38 (Mc := MRd_isWord P W) (o := 150) (as := [aR 78]) (st := []) dX8_item_35 rfl (c_Rd_isWord P W 78 G4) lkX8_65 (cmRd_isWord P W) rfl rfl rfl (fun _ => dsC_150 P W _) nn150 rfl (Nat.le_of_ble_eq_true rfl) (Nat.le_of_ble_eq_true rfl) (fun _ => rfl) rfl (fun z5 G6 => ?_)
      refine r_if_eq 48 41 dX8_item_38 rfl rfl ?_ ?_
      · refine r_aload_n 49 0 dX8_item_48 rfl rfl rfl ?_
        refine r_callvV 52 (Mc := MRd_statement P W DX) (o := 150) (as := []) (st := []) dX8_item_49 rfl (c_Rd_statement P W DX G6) lkX8_166 (cmRd_statement P W DX) rfl rfl rfl (fun _ => dsC_150 P W _) nn150 rfl (Nat.le_of_ble_eq_true rfl) (Nat.le_of_ble_eq_true rfl) (fun _ => rfl) rfl (fun z7 G8 => ?_)
        exact r_return dX8_item_52 rfl
      · refine r_aload_n 42 0 dX8_item_41 rfl rfl rfl ?_
        refine r_callvV 45 (Mc := MRd_output P W) (o := 150) (as := []) (st := []) dX8_item_42 rfl (c_Rd_output P W G6) lkX8_164 (cmRd_output P W) rfl rfl rfl (fun _ => dsC_150 P W _) nn150 rfl (Nat.le_of_ble_eq_true rfl) (Nat.le_of_ble_eq_true rfl) (fun _ => rfl) rfl (fun z9 G10 => ?_)
        refine r_goto 52 dX8_item_45 rfl ?_
        exact r_return dX8_item_52 rfl
    · refine r_aload_n 26 0 dX8_item_25 rfl rfl rfl ?_
      refine r_callvV 29 (Mc := MRd_def P W) (o := 150) (as := []) (st := []) dX8_item_26 rfl (c_Rd_def P W G4) lkX8_162 (cmRd_def P W) rfl rfl rfl (fun _ => dsC_150 P W _) nn150 rfl (Nat.le_of_ble_eq_true rfl) (Nat.le_of_ble_eq_true rfl) (fun _ => rfl) rfl (fun z11 G12 => ?_)
      refine r_goto 52 dX8_item_29 rfl ?_
      exact r_return dX8_item_52 rfl
  · refine r_aload_n 10 0 dX8_item_9 rfl rfl rfl ?_
    refine r_callvV 13 (Mc := MRd_input P W) (o := 150) (as := []) (st := []) dX8_item_10 rfl (c_Rd_input P W G2) lkX8_160 (cmRd_input P W) rfl rfl rfl (fun _ => dsC_150 P W _) nn150 rfl (Nat.le_of_ble_eq_true rfl) (Nat.le_of_ble_eq_true rfl) (fun _ => rfl) rfl (fun z13 G14 => ?_)
    refine r_goto 52 dX8_item_13 rfl ?_
    exact r_return dX8_item_52 rfl
theorem c_Rd_item (P W : Int) (G : St) : MG (MRd_item P W) [aR 150] G (Rd_item P W G) := MG.of plX8 (Nat.le_of_ble_eq_true rfl) (s_Rd_item P W G)
theorem s_Rd_read_b72 (P W : Int) (G : St) : SS (MRd_read P W) some 72 [(0, aR 150)] [] G (Rd_read_b72 P W G) := by
  refine r_aload_n 73 0 dX8_read_72 rfl rfl rfl ?_
  refine r_get 76 (aR 110) dX8_read_73 fkX8_19 (fun _ => dsC_150 P W _) nn150 rfl rfl ?_
  refine r_gets 79 60 dX8_read_76 q1196 rfl rfl ?_
  refine r_iconst 80 0 dX8_read_79 rfl rfl ?_
  refine r_aload_n 81 0 dX8_read_80 rfl rfl rfl ?_
  refine r_get 84 (aI (G 150 1)) dX8_read_81 fkX8_34 (fun _ => dsC_150 P W _) nn150 rfl rfl ?_
  refine r_iconst 85 0 dX8_read_84 rfl rfl ?_
  refine r_callvI 88 (Mc := MCd_add P W) (o := 110) (as := [aR 60, aI 0, aI (G 150 1), aI 0]) (st := []) dX8_read_85 rfl (c_Cd_add P W 60 0 (G 150 1) 0 G) lkX8_154 (cmCd_add P W) rfl rfl rfl (fun _ => dsC_110 P W _) nn110 rfl (Nat.le_of_ble_eq_true rfl) (Nat.le_of_ble_eq_true rfl) (fun _ => rfl) rfl (fun z9 G10 => ?_)
  refine r_istore_n 89 [(3, aI z9), (0, aR 150)] dX8_read_88 rfl rfl rfl rfl ?_
  exact r_return dX8_read_89 rfl
theorem s_Rd_read_s40 (P W : Int) (X40 : St → Option (Int × St)) (hX40 : ∀ s, So (MRd_read P W) 40 [(0, aR 150)] [] s (X40 s)) (G : St) : SS (MRd_read P W) (lk X40 some) 40 [(0, aR 150)] [] G (Rd_read_s40 P W G) := by
  refine r_aload_n 41 0 dX8_read_40 rfl rfl rfl ?_
  refine r_get 44 (aI (G 150 2)) dX8_read_41 fkX8_31 (fun _ => dsC_150 P W _) nn150 rfl rfl ?_
  refine r_aload_n 45 0 dX8_read_44 rfl rfl rfl ?_
  refine r_get 48 (aI (G 150 1)) dX8_read_45 fkX8_34 (fun _ => dsC_150 P W _) nn150 rfl rfl ?_
  refine r_icmp_ge 72 51 dX8_read_48 rfl rfl ?_ ?_
  · refine SS.ex ?_
    exact s_Rd_read_b72 P W G
  · refine r_aload_n 52 0 dX8_read_51 rfl rfl rfl ?_
    refine r_get 55 (aR 130) dX8_read_52 fkX8_27 (fun _ => dsC_150 P W _) nn150 rfl rfl ?_
    refine r_callvI 58 (Mc := MFt_is P W) (o := 130) (as := []) (st := []) dX8_read_55 rfl (c_Ft_is P W G) lkX8_96 (cmFt_is P W) rfl rfl rfl (fun _ => dsC_130 P W _) nn130 rfl (Nat.le_of_ble_eq_true rfl) (Nat.le_of_ble_eq_true rfl) (fun _ => rfl) rfl (fun z11 G12 => ?_)
    refine r_if_ne 72 61 dX8_read_58 rfl rfl ?_ ?_
    · refine SS.ex ?_
      exact s_Rd_read_b72 P W G12
    · refine r_aload_n 62 0 dX8_read_61 rfl rfl rfl ?_
      refine r_callvV 65 (Mc := MRd_item P W) (o := 150) (as := []) (st := []) dX8_read_62 rfl (c_Rd_item P W G12) lkX8_145 (cmRd_item P W) rfl rfl rfl (fun _ => dsC_150 P W _) nn150 rfl (Nat.le_of_ble_eq_true rfl) (Nat.le_of_ble_eq_true rfl) (fun _ => rfl) rfl (fun z13 G14 => ?_)
      refine r_aload_n 66 0 dX8_read_65 rfl rfl rfl ?_
      refine r_callvV 69 (Mc := MRd_skip P W) (o := 150) (as := []) (st := []) dX8_read_66 rfl (c_Rd_skip P W G14) lkX8_93 (cmRd_skip P W) rfl rfl rfl (fun _ => dsC_150 P W _) nn150 rfl (Nat.le_of_ble_eq_true rfl) (Nat.le_of_ble_eq_true rfl) (fun _ => rfl) rfl (fun z15 G16 => ?_)
      refine r_goto 40 dX8_read_69 rfl ?_
      exact SS.back (hX40 (G16))
theorem sl_Rd_read_40 (P W : Int) (G : St) : SS (MRd_read P W) some 40 [(0, aR 150)] [] G (Rd_read_l40 P W G) := by
  exact SS.loop (σ := St) (fun s => [(0, aR 150)]) (fun s => s) (fun s => Rd_read_s40 P W s) (fun X40 hX40 s => s_Rd_read_s40 P W   X40 hX40 s) (G)
theorem s_Rd_read (P W : Int) (x2 : Int) (G : St) : SS (MRd_read P W) some 0 [(0, aR 150), (1, aR 102), (2, aI x2)] [] G (Rd_read P W x2 G) := by
  refine r_aload_n 1 1 dX8_read_0 rfl rfl rfl ?_
  refine r_iconst 2 0 dX8_read_1 rfl rfl ?_
  refine r_aload_n 3 0 dX8_read_2 rfl rfl rfl ?_
  refine r_get 6 (aR 151) dX8_read_3 fkX8_9 (fun _ => dsC_150 P W _) nn150 rfl rfl ?_
  refine r_iconst 7 0 dX8_read_6 rfl rfl ?_
  refine r_iload_n 8 2 dX8_read_7 rfl rfl rfl ?_
  refine r_acopy 11 1 dX8_read_8 q950 (Or.inr rfl) (fun _ _ => dsC_102 P W _) (fun _ => nn102) (fun _ _ => dsC_151 P W _) (fun _ => nn151) (Nat.le_of_ble_eq_true rfl) (Nat.le_of_ble_eq_true rfl) rfl rfl ?_
  refine ss_tk (fun G1 => ?_)
  refine r_aload_n 12 0 dX8_read_11 rfl rfl rfl ?_
  refine r_iload_n 13 2 dX8_read_12 rfl rfl rfl ?_
  refine r_putI 16 dX8_read_13 fkX8_34 (fun _ => dsC_150 P W _) nn150 rfl rfl ?_
  refine ss_tk (fun G2 => ?_)
  refine r_aload_n 17 0 dX8_read_16 rfl rfl rfl ?_
  refine r_iconst 18 0 dX8_read_17 rfl rfl ?_
  refine r_putI 21 dX8_read_18 fkX8_31 (fun _ => dsC_150 P W _) nn150 rfl rfl ?_
  refine ss_tk (fun G3 => ?_)
  refine r_aload_n 22 0 dX8_read_21 rfl rfl rfl ?_
  refine r_iconst 23 0 dX8_read_22 rfl rfl ?_
  refine r_putI 26 dX8_read_23 fkX8_130 (fun _ => dsC_150 P W _) nn150 rfl rfl ?_
  refine ss_tk (fun G4 => ?_)
  refine r_aload_n 27 0 dX8_read_26 rfl rfl rfl ?_
  refine r_iconst 28 0 dX8_read_27 rfl rfl ?_
  refine r_putI 31 dX8_read_28 fkX8_139 (fun _ => dsC_150 P W _) nn150 rfl rfl ?_
  refine ss_tk (fun G5 => ?_)
  refine r_aload_n 32 0 dX8_read_31 rfl rfl rfl ?_
  refine r_iconst 33 0 dX8_read_32 rfl rfl ?_
  refine r_putI 36 dX8_read_33 fkX8_142 (fun _ => dsC_150 P W _) nn150 rfl rfl ?_
  refine ss_tk (fun G6 => ?_)
  refine r_aload_n 37 0 dX8_read_36 rfl rfl rfl ?_
  refine r_callvV 40 (Mc := MRd_skip P W) (o := 150) (as := []) (st := []) dX8_read_37 rfl (c_Rd_skip P W G6) lkX8_93 (cmRd_skip P W) rfl rfl rfl (fun _ => dsC_150 P W _) nn150 rfl (Nat.le_of_ble_eq_true rfl) (Nat.le_of_ble_eq_true rfl) (fun _ => rfl) rfl (fun z7 G8 => ?_)
  refine r_to [0] [(0, aR 150)] rfl ?_
  exact sl_Rd_read_40 P W G8
theorem c_Rd_read (P W : Int) (x2 : Int) (G : St) : MG (MRd_read P W) [aR 150, aR 102, aI x2] G (Rd_read P W x2 G) := MG.of plX8 (Nat.le_of_ble_eq_true rfl) (s_Rd_read P W x2 G)
theorem s_Ho_compile_s131 (P W : Int) (X131 : Int × St → Option (Int × St)) (hX131 : ∀ s, So (MHo_compile P W) 131 [(0, aR 100), (2, aI (s.1))] [] s.2 (X131 s)) (x2 : Int) (G : St) : SS (MHo_compile P W) (lk X131 some) 131 [(0, aR 100), (2, aI x2)] [] G (Ho_compile_s131 P W x2 G) := by
  refine r_iload_n 132 1 dX1_compile_131 rfl rfl rfl ?_
  refine r_sipush 135 256 dX1_compile_132 rfl rfl ?_
  refine r_icmp_ge 151 138 dX1_compile_135 rfl rfl ?_ ?_
  · refine SS.ex ?_
    refine r_aload_n 152 0 dX1_compile_151 rfl rfl rfl ?_
    refine r_iconst 153 1 dX1_compile_152 rfl rfl ?_
    refine r_putZ 156 dX1_compile_153 fkX1_150 (fun _ => dsC_100 P W _) nn100 rfl rfl ?_
    refine ss_tk (fun G22 => ?_)
    refine r_iconst 157 0 dX1_compile_156 rfl rfl ?_
    exact r_ireturn dX1_compile_157 rfl
  · refine r_aload_n 139 0 dX1_compile_138 rfl rfl rfl ?_
    refine r_get 142 (aR 104) dX1_compile_139 fkX1_51 (fun _ => dsC_100 P W _) nn100 rfl rfl ?_
    refine r_iload_n 143 1 dX1_compile_142 rfl rfl rfl ?_
    refine r_iconst 144 0 dX1_compile_143 rfl rfl ?_
    refine r_iast 145 dX1_compile_144 (fun _ _ _ => dsC_104 P W _) (fun _ _ => nn104) rfl ?_
    refine ss_tk (fun G23 => ?_)
    refine r_iinc 148 [(2, aI (x2 + 1)), (0, aR 100)] 1 dX1_compile_145 rfl rfl rfl rfl ?_
    refine r_goto 131 dX1_compile_148 rfl ?_
    refine r_to [1, 0] [(0, aR 100), (2, aI (x2 + 1))] rfl ?_
    exact SS.back (hX131 (x2 + 1, G23))
theorem sl_Ho_compile_131 (P W : Int) (x2 : Int) (G : St) : SS (MHo_compile P W) some 131 [(0, aR 100), (2, aI x2)] [] G (Ho_compile_l131 P W x2 G) := by
  exact SS.loop (σ := Int × St) (fun s => [(0, aR 100), (2, aI (s.1))]) (fun s => s.2) (fun s => Ho_compile_s131 P W s.1 s.2) (fun X131 hX131 s => s_Ho_compile_s131 P W   X131 hX131 s.1 s.2) (x2, G)
theorem s_Ho_compile_b104 (P W : Int) (G : St) : SS (MHo_compile P W) some 104 [(0, aR 100)] [] G (Ho_compile_b104 P W G) := by
  refine r_aload_n 105 0 dX1_compile_104 rfl rfl rfl ?_
  refine r_get 108 (aR 130) dX1_compile_105 fkX1_33 (fun _ => dsC_100 P W _) nn100 rfl rfl ?_
  refine r_callvI 111 (Mc := MFt_is P W) (o := 130) (as := []) (st := []) dX1_compile_108 rfl (c_Ft_is P W G) lkX1_169 (cmFt_is P W) rfl rfl rfl (fun _ => dsC_130 P W _) nn130 rfl (Nat.le_of_ble_eq_true rfl) (Nat.le_of_ble_eq_true rfl) (fun _ => rfl) rfl (fun z18 G19 => ?_)
  refine r_if_eq 122 114 dX1_compile_111 rfl rfl ?_ ?_
  · refine r_aload_n 123 0 dX1_compile_122 rfl rfl rfl ?_
    refine r_get 126 (aR 220) dX1_compile_123 fkX1_116 (fun _ => dsC_100 P W _) nn100 rfl rfl ?_
    refine r_callvV 129 (Mc := MPl_make P W) (o := 220) (as := []) (st := []) dX1_compile_126 rfl (c_Pl_make P W G19) lkX1_185 (cmPl_make P W) rfl rfl rfl (fun _ => dsC_220 P W _) nn220 rfl (Nat.le_of_ble_eq_true rfl) (Nat.le_of_ble_eq_true rfl) (fun _ => rfl) rfl (fun z20 G21 => ?_)
    refine r_iconst 130 0 dX1_compile_129 rfl rfl ?_
    refine r_istore_n 131 [(2, aI 0), (0, aR 100)] dX1_compile_130 rfl rfl rfl rfl ?_
    refine r_to [1, 0] [(0, aR 100), (2, aI 0)] rfl ?_
    exact sl_Ho_compile_131 P W 0 G21
  · refine r_aload_n 115 0 dX1_compile_114 rfl rfl rfl ?_
    refine r_get 118 (aR 130) dX1_compile_115 fkX1_33 (fun _ => dsC_100 P W _) nn100 rfl rfl ?_
    refine r_get 121 (aI (G19 130 0)) dX1_compile_118 fkX1_182 (fun _ => dsC_130 P W _) nn130 rfl rfl ?_
    exact r_ireturn dX1_compile_121 rfl
theorem s_Ho_compile_b80 (P W : Int) (G : St) : SS (MHo_compile P W) some 80 [(0, aR 100)] [] G (Ho_compile_b80 P W G) := by
  refine r_aload_n 81 0 dX1_compile_80 rfl rfl rfl ?_
  refine r_get 84 (aR 130) dX1_compile_81 fkX1_33 (fun _ => dsC_100 P W _) nn100 rfl rfl ?_
  refine r_callvI 87 (Mc := MFt_is P W) (o := 130) (as := []) (st := []) dX1_compile_84 rfl (c_Ft_is P W G) lkX1_169 (cmFt_is P W) rfl rfl rfl (fun _ => dsC_130 P W _) nn130 rfl (Nat.le_of_ble_eq_true rfl) (Nat.le_of_ble_eq_true rfl) (fun _ => rfl) rfl (fun z16 G17 => ?_)
  refine r_if_ne 104 90 dX1_compile_87 rfl rfl ?_ ?_
  · exact s_Ho_compile_b104 P W G17
  · refine r_aload_n 91 0 dX1_compile_90 rfl rfl rfl ?_
    refine r_get 94 (aR 180) dX1_compile_91 fkX1_107 (fun _ => dsC_100 P W _) nn100 rfl rfl ?_
    refine r_aload_n 95 0 dX1_compile_94 rfl rfl rfl ?_
    refine r_get 98 (aR 160) dX1_compile_95 fkX1_98 (fun _ => dsC_100 P W _) nn100 rfl rfl ?_
    refine r_get 101 (aI (G17 160 11)) dX1_compile_98 fkX1_176 (fun _ => dsC_160 P W _) nn160 rfl rfl ?_
    refine r_callvV 104 (Mc := MBd_build P W) (o := 180) (as := [aI (G17 160 11)]) (st := []) dX1_compile_101 rfl (c_Bd_build P W (G17 160 11) G17) lkX1_179 (cmBd_build P W) rfl rfl rfl (fun _ => dsC_180 P W _) nn180 rfl (Nat.le_of_ble_eq_true rfl) (Nat.le_of_ble_eq_true rfl) (fun _ => rfl) rfl (fun z24 G25 => ?_)
    exact s_Ho_compile_b104 P W G25
theorem s_Ho_compile (P W : Int) (G : St) : SS (MHo_compile P W) some 0 [(0, aR 100)] [] G (Ho_compile P W G) := by
  refine r_aload_n 1 0 dX1_compile_0 rfl rfl rfl ?_
  refine r_get 4 (aI (G 100 4)) dX1_compile_1 fkX1_141 (fun _ => dsC_100 P W _) nn100 rfl rfl ?_
  refine r_istore_n 5 [(1, aI (G 100 4)), (0, aR 100)] dX1_compile_4 rfl rfl rfl rfl ?_
  refine r_aload_n 6 1 dX1_compile_5 rfl rfl rfl ?_
  refine r_iconst 7 0 dX1_compile_6 rfl rfl ?_
  refine r_putI 10 dX1_compile_7 fkX1_141 (fun _ => dsC_100 P W _) nn100 rfl rfl ?_
  refine ss_tk (fun G1 => ?_)
  refine r_aload_n 11 1 dX1_compile_10 rfl rfl rfl ?_
  refine r_iconst 12 0 dX1_compile_11 rfl rfl ?_
  refine r_putZ 15 dX1_compile_12 fkX1_150 (fun _ => dsC_100 P W _) nn100 rfl rfl ?_
  refine ss_tk (fun G2 => ?_)
  refine r_aload_n 16 1 dX1_compile_15 rfl rfl rfl ?_
  refine r_iconst 17 0 dX1_compile_16 rfl rfl ?_
  refine r_putZ 20 dX1_compile_17 fkX1_154 (fun _ => dsC_100 P W _) nn100 rfl rfl ?_
  refine ss_tk (fun G3 => ?_)
  refine r_aload_n 21 1 dX1_compile_20 rfl rfl rfl ?_
  refine r_iconst 22 0 dX1_compile_21 rfl rfl ?_
  refine r_putI 25 dX1_compile_22 fkX1_157 (fun _ => dsC_100 P W _) nn100 rfl rfl ?_
  refine ss_tk (fun G4 => ?_)
  refine r_aload_n 26 1 dX1_compile_25 rfl rfl rfl ?_
  refine r_iconst 27 0 dX1_compile_26 rfl rfl ?_
  refine r_putI 30 dX1_compile_27 fkX1_160 (fun _ => dsC_100 P W _) nn100 rfl rfl ?_
  refine ss_tk (fun G5 => ?_)
  refine r_aload_n 31 1 dX1_compile_30 rfl rfl rfl ?_
  refine r_get 34 (aR 120) dX1_compile_31 fkX1_26 (fun _ => dsC_100 P W _) nn100 rfl rfl ?_
  refine r_callvV 37 (Mc := MNm_clear P W) (o := 120) (as := []) (st := []) dX1_compile_34 rfl (c_Nm_clear P W G5) lkX1_163 (cmNm_clear P W) rfl rfl rfl (fun _ => dsC_120 P W _) nn120 rfl (Nat.le_of_ble_eq_true rfl) (Nat.le_of_ble_eq_true rfl) (fun _ => rfl) rfl (fun z6 G7 => ?_)
  refine r_aload_n 38 1 dX1_compile_37 rfl rfl rfl ?_
  refine r_get 41 (aR 110) dX1_compile_38 fkX1_19 (fun _ => dsC_100 P W _) nn100 rfl rfl ?_
  refine r_callvV 44 (Mc := MCd_clear P W) (o := 110) (as := []) (st := []) dX1_compile_41 rfl (c_Cd_clear P W G7) lkX1_164 (cmCd_clear P W) rfl rfl rfl (fun _ => dsC_110 P W _) nn110 rfl (Nat.le_of_ble_eq_true rfl) (Nat.le_of_ble_eq_true rfl) (fun _ => rfl) rfl (fun z8 G9 => ?_)
  refine r_aload_n 45 1 dX1_compile_44 rfl rfl rfl ?_
  refine r_get 48 (aR 130) dX1_compile_45 fkX1_33 (fun _ => dsC_100 P W _) nn100 rfl rfl ?_
  refine r_callvV 51 (Mc := MFt_clear P W) (o := 130) (as := []) (st := []) dX1_compile_48 rfl (c_Ft_clear P W G9) lkX1_138 (cmFt_clear P W) rfl rfl rfl (fun _ => dsC_130 P W _) nn130 rfl (Nat.le_of_ble_eq_true rfl) (Nat.le_of_ble_eq_true rfl) (fun _ => rfl) rfl (fun z10 G11 => ?_)
  refine r_aload_n 52 1 dX1_compile_51 rfl rfl rfl ?_
  refine r_get 55 (aR 150) dX1_compile_52 fkX1_89 (fun _ => dsC_100 P W _) nn100 rfl rfl ?_
  refine r_aload_n 56 1 dX1_compile_55 rfl rfl rfl ?_
  refine r_get 59 (aR 102) dX1_compile_56 fkX1_13 (fun _ => dsC_100 P W _) nn100 rfl rfl ?_
  refine r_iload_n 60 0 dX1_compile_59 rfl rfl rfl ?_
  refine r_callvV 63 (Mc := MRd_read P W) (o := 150) (as := [aR 102, aI (G 100 4)]) (st := []) dX1_compile_60 rfl (c_Rd_read P W (G 100 4) G11) lkX1_165 (cmRd_read P W) rfl rfl rfl (fun _ => dsC_150 P W _) nn150 rfl (Nat.le_of_ble_eq_true rfl) (Nat.le_of_ble_eq_true rfl) (fun _ => rfl) rfl (fun z12 G13 => ?_)
  refine r_aload_n 64 1 dX1_compile_63 rfl rfl rfl ?_
  refine r_get 67 (aR 130) dX1_compile_64 fkX1_33 (fun _ => dsC_100 P W _) nn100 rfl rfl ?_
  refine r_callvI 70 (Mc := MFt_is P W) (o := 130) (as := []) (st := []) dX1_compile_67 rfl (c_Ft_is P W G13) lkX1_169 (cmFt_is P W) rfl rfl rfl (fun _ => dsC_130 P W _) nn130 rfl (Nat.le_of_ble_eq_true rfl) (Nat.le_of_ble_eq_true rfl) (fun _ => rfl) rfl (fun z14 G15 => ?_)
  refine r_if_ne 80 73 dX1_compile_70 rfl rfl ?_ ?_
  · refine r_to [1] [(0, aR 100)] rfl ?_
    exact s_Ho_compile_b80 P W G15
  · refine r_aload_n 74 1 dX1_compile_73 rfl rfl rfl ?_
    refine r_get 77 (aR 160) dX1_compile_74 fkX1_98 (fun _ => dsC_100 P W _) nn100 rfl rfl ?_
    refine r_callvV 80 (Mc := MCk_check P W) (o := 160) (as := []) (st := []) dX1_compile_77 rfl (c_Ck_check P W G15) lkX1_173 (cmCk_check P W) rfl rfl rfl (fun _ => dsC_160 P W _) nn160 rfl (Nat.le_of_ble_eq_true rfl) (Nat.le_of_ble_eq_true rfl) (fun _ => rfl) rfl (fun z26 G27 => ?_)
    refine r_to [1] [(0, aR 100)] rfl ?_
    exact s_Ho_compile_b80 P W G27
theorem c_Ho_compile (P W : Int) (G : St) : MG (MHo_compile P W) [aR 100] G (Ho_compile P W G) := MG.of plX1 (Nat.le_of_ble_eq_true rfl) (s_Ho_compile P W G)
theorem s_Ho_circuitLook_b52 (P W : Int) (G : St) : SS (MHo_circuitLook P W) some 52 [(0, aR 100)] [] G (Ho_circuitLook_b52 P W G) := by
  refine r_aload_n 53 0 dX1_circuitLook_52 rfl rfl rfl ?_
  refine r_get 56 (aR 140) dX1_circuitLook_53 fkX1_40 (fun _ => dsC_100 P W _) nn100 rfl rfl ?_
  refine r_get 59 (aI (G 140 4)) dX1_circuitLook_56 fkX1_191 (fun _ => dsC_140 P W _) nn140 rfl rfl ?_
  exact r_ireturn dX1_circuitLook_59 rfl
theorem s_Ho_circuitLook_b60 (P W : Int) (G : St) : SS (MHo_circuitLook P W) some 60 [(0, aR 100)] [] G (Ho_circuitLook_b60 P W G) := by
  refine r_aload_n 61 0 dX1_circuitLook_60 rfl rfl rfl ?_
  refine r_get 64 (aR 140) dX1_circuitLook_61 fkX1_40 (fun _ => dsC_100 P W _) nn100 rfl rfl ?_
  refine r_get 67 (aI (G 140 5)) dX1_circuitLook_64 fkX1_194 (fun _ => dsC_140 P W _) nn140 rfl rfl ?_
  exact r_ireturn dX1_circuitLook_67 rfl
theorem s_Ho_circuitLook_b68 (P W : Int) (G : St) : SS (MHo_circuitLook P W) some 68 [(0, aR 100)] [] G (Ho_circuitLook_b68 P W G) := by
  refine r_aload_n 69 0 dX1_circuitLook_68 rfl rfl rfl ?_
  refine r_get 72 (aR 140) dX1_circuitLook_69 fkX1_40 (fun _ => dsC_100 P W _) nn100 rfl rfl ?_
  refine r_get 75 (aI (G 140 7)) dX1_circuitLook_72 fkX1_197 (fun _ => dsC_140 P W _) nn140 rfl rfl ?_
  exact r_ireturn dX1_circuitLook_75 rfl
theorem s_Ho_circuitLook_b76 (P W : Int) (G : St) : SS (MHo_circuitLook P W) some 76 [(0, aR 100)] [] G (Ho_circuitLook_b76 P W G) := by
  refine r_aload_n 77 0 dX1_circuitLook_76 rfl rfl rfl ?_
  refine r_get 80 (aR 140) dX1_circuitLook_77 fkX1_40 (fun _ => dsC_100 P W _) nn100 rfl rfl ?_
  refine r_get 83 (aI (G 140 6)) dX1_circuitLook_80 fkX1_200 (fun _ => dsC_140 P W _) nn140 rfl rfl ?_
  exact r_ireturn dX1_circuitLook_83 rfl
theorem s_Ho_circuitLook_b84 (P W : Int) (G : St) : SS (MHo_circuitLook P W) some 84 [(0, aR 100)] [] G (Ho_circuitLook_b84 P W G) := by
  refine r_aload_n 85 0 dX1_circuitLook_84 rfl rfl rfl ?_
  refine r_get 88 (aR 180) dX1_circuitLook_85 fkX1_107 (fun _ => dsC_100 P W _) nn100 rfl rfl ?_
  refine r_get 91 (aI (G 180 13)) dX1_circuitLook_88 fkX1_203 (fun _ => dsC_180 P W _) nn180 rfl rfl ?_
  exact r_ireturn dX1_circuitLook_91 rfl
theorem s_Ho_circuitLook_b92 (P W : Int) (G : St) : SS (MHo_circuitLook P W) some 92 [(0, aR 100)] [] G (Ho_circuitLook_b92 P W G) := by
  refine r_aload_n 93 0 dX1_circuitLook_92 rfl rfl rfl ?_
  refine r_get 96 (aR 180) dX1_circuitLook_93 fkX1_107 (fun _ => dsC_100 P W _) nn100 rfl rfl ?_
  refine r_get 99 (aI (G 180 32)) dX1_circuitLook_96 fkX1_206 (fun _ => dsC_180 P W _) nn180 rfl rfl ?_
  exact r_ireturn dX1_circuitLook_99 rfl
theorem s_Ho_circuitLook_b100 (P W : Int) (G : St) : SS (MHo_circuitLook P W) some 100 [(0, aR 100)] [] G (Ho_circuitLook_b100 P W G) := by
  refine r_aload_n 101 0 dX1_circuitLook_100 rfl rfl rfl ?_
  refine r_get 104 (aI P) dX1_circuitLook_101 fkX1_77 (fun _ => dsC_100 P W _) nn100 rfl rfl ?_
  refine r_iconst 105 1 dX1_circuitLook_104 rfl rfl ?_
  refine r_isub 106 dX1_circuitLook_105 rfl ?_
  refine r_aload_n 107 0 dX1_circuitLook_106 rfl rfl rfl ?_
  refine r_get 110 (aR 140) dX1_circuitLook_107 fkX1_40 (fun _ => dsC_100 P W _) nn100 rfl rfl ?_
  refine r_get 113 (aI (G 140 6)) dX1_circuitLook_110 fkX1_200 (fun _ => dsC_140 P W _) nn140 rfl rfl ?_
  refine r_imul 114 dX1_circuitLook_113 rfl ?_
  refine r_iconst 115 3 dX1_circuitLook_114 rfl rfl ?_
  refine r_aload_n 116 0 dX1_circuitLook_115 rfl rfl rfl ?_
  refine r_get 119 (aI P) dX1_circuitLook_116 fkX1_77 (fun _ => dsC_100 P W _) nn100 rfl rfl ?_
  refine r_imul 120 dX1_circuitLook_119 rfl ?_
  refine r_iconst 121 1 dX1_circuitLook_120 rfl rfl ?_
  refine r_isub 122 dX1_circuitLook_121 rfl ?_
  refine r_aload_n 123 0 dX1_circuitLook_122 rfl rfl rfl ?_
  refine r_get 126 (aR 140) dX1_circuitLook_123 fkX1_40 (fun _ => dsC_100 P W _) nn100 rfl rfl ?_
  refine r_get 129 (aI (G 140 5)) dX1_circuitLook_126 fkX1_194 (fun _ => dsC_140 P W _) nn140 rfl rfl ?_
  refine r_imul 130 dX1_circuitLook_129 rfl ?_
  refine r_iadd 131 dX1_circuitLook_130 rfl ?_
  exact r_ireturn dX1_circuitLook_131 rfl
theorem s_Ho_circuitLook_b132 (P W : Int) (G : St) : SS (MHo_circuitLook P W) some 132 [(0, aR 100)] [] G (Ho_circuitLook_b132 P W G) := by
  refine r_aload_n 133 0 dX1_circuitLook_132 rfl rfl rfl ?_
  refine r_get 136 (aR 180) dX1_circuitLook_133 fkX1_107 (fun _ => dsC_100 P W _) nn100 rfl rfl ?_
  refine r_get 139 (aI (G 180 8)) dX1_circuitLook_136 fkX1_209 (fun _ => dsC_180 P W _) nn180 rfl rfl ?_
  exact r_ireturn dX1_circuitLook_139 rfl
theorem s_Ho_circuitLook (P W : Int) (x1 : Int) (G : St) : SS (MHo_circuitLook P W) some 0 [(0, aR 100), (1, aI x1)] [] G (Ho_circuitLook P W x1 G) := by
  refine r_aload_n 1 0 dX1_circuitLook_0 rfl rfl rfl ?_
  refine r_get 4 (aI (G 100 18)) dX1_circuitLook_1 fkX1_150 (fun _ => dsC_100 P W _) nn100 rfl rfl ?_
  refine r_if_ne 9 7 dX1_circuitLook_4 rfl rfl ?_ ?_
  · refine r_iload_n 10 1 dX1_circuitLook_9 rfl rfl rfl ?_
    refine r_tsw 132 [(52, Ho_circuitLook_b52 P W G), (60, Ho_circuitLook_b60 P W G), (68, Ho_circuitLook_b68 P W G), (76, Ho_circuitLook_b76 P W G), (84, Ho_circuitLook_b84 P W G), (92, Ho_circuitLook_b92 P W G), (100, Ho_circuitLook_b100 P W G)] dX1_circuitLook_10 rfl rfl rfl ⟨?_, ?_, ?_, ?_, ?_, ?_, ?_, trivial⟩ ?_
    · refine r_to [0] [(0, aR 100)] rfl ?_
      exact s_Ho_circuitLook_b52 P W G
    · refine r_to [0] [(0, aR 100)] rfl ?_
      exact s_Ho_circuitLook_b60 P W G
    · refine r_to [0] [(0, aR 100)] rfl ?_
      exact s_Ho_circuitLook_b68 P W G
    · refine r_to [0] [(0, aR 100)] rfl ?_
      exact s_Ho_circuitLook_b76 P W G
    · refine r_to [0] [(0, aR 100)] rfl ?_
      exact s_Ho_circuitLook_b84 P W G
    · refine r_to [0] [(0, aR 100)] rfl ?_
      exact s_Ho_circuitLook_b92 P W G
    · refine r_to [0] [(0, aR 100)] rfl ?_
      exact s_Ho_circuitLook_b100 P W G
    · refine r_to [0] [(0, aR 100)] rfl ?_
      exact s_Ho_circuitLook_b132 P W G
  · refine r_iconst 8 (-1) dX1_circuitLook_7 rfl rfl ?_
    exact r_ireturn dX1_circuitLook_8 rfl
theorem c_Ho_circuitLook (P W : Int) (x1 : Int) (G : St) : MG (MHo_circuitLook P W) [aR 100, aI x1] G (Ho_circuitLook P W x1 G) := MG.of plX1 (Nat.le_of_ble_eq_true rfl) (s_Ho_circuitLook P W x1 G)
theorem s_Pa_isDone (P W : Int) (p : Int) (hp : 0 ≤ p) (G : St) : SS (MPa_isDone P W) some 0 [(0, aR (1000 + 32 * p))] [] G (Pa_isDone p G) := by
  refine r_aload_n 1 0 dX14_isDone_0 rfl rfl rfl ?_
  refine r_get 4 (aI (G (1000 + 32 * p) 7)) dX14_isDone_1 fkX14_46 (fun h => party_c P W hp h) (party_n hp) rfl rfl ?_
  refine r_aload_n 5 0 dX14_isDone_4 rfl rfl rfl ?_
  refine r_get 8 (aR 220) dX14_isDone_5 fkX14_38 (fun h => party_c P W hp h) (party_n hp) rfl rfl ?_
  refine r_get 11 (aR 140) dX14_isDone_8 fkX14_58 (fun _ => dsC_220 P W _) nn220 rfl rfl ?_
  refine r_get 14 (aI (G 140 7)) dX14_isDone_11 fkX14_64 (fun _ => dsC_140 P W _) nn140 rfl rfl ?_
  refine r_iconst 15 2 dX14_isDone_14 rfl rfl ?_
  refine r_iadd 16 dX14_isDone_15 rfl ?_
  refine SS.phi (fun VV_ => ckB VV_ 2 (some (VV_, G))) ?_
  refine r_icmp_ne 23 19 dX14_isDone_16 rfl rfl ?_ ?_
  · refine r_iconst 24 0 dX14_isDone_23 rfl rfl ?_
    exact r_zreturn dX14_isDone_24 rfl
  · refine r_iconst 20 1 dX14_isDone_19 rfl rfl ?_
    refine r_goto 24 dX14_isDone_20 rfl ?_
    exact r_zreturn dX14_isDone_24 rfl
theorem c_Pa_isDone (P W : Int) (p : Int) (hp : 0 ≤ p) (G : St) : MG (MPa_isDone P W) [aR (1000 + 32 * p)] G (Pa_isDone p G) := MG.of plX14 (Nat.le_of_ble_eq_true rfl) (s_Pa_isDone P W p hp G)
theorem s_Ho_done_b37 (P W : Int) (X4 : Int × Int × St → Option (Int × St)) (hX4 : ∀ s, So (MHo_done P W) 4 [(0, aR 100), (1, aI (s.1)), (2, aI (s.2.1))] [] s.2.2 (X4 s)) (x2 : Int) (s0 : Int) (s1 : Int) (G : St) : SS (MHo_done P W) (lk X4 some) 37 [(0, aR 100), (2, aI x2)] [aI s0, aI s1] G (Ho_done_b37 P W x2 s0 s1 G) := by
  refine r_iadd 38 dX1_done_37 rfl ?_
  refine r_istore_n 39 [(1, aI (s1 + s0)), (0, aR 100), (2, aI x2)] dX1_done_38 rfl rfl rfl rfl ?_
  refine r_iinc 42 [(2, aI (x2 + 1)), (1, aI (s1 + s0)), (0, aR 100)] 2 dX1_done_39 rfl rfl rfl rfl ?_
  refine r_goto 4 dX1_done_42 rfl ?_
  refine r_to [2, 1, 0] [(0, aR 100), (1, aI (s1 + s0)), (2, aI (x2 + 1))] rfl ?_
  exact SS.back (hX4 (s1 + s0, x2 + 1, G))
theorem s_Ho_done_s4 (P W : Int) (X4 : Int × Int × St → Option (Int × St)) (hX4 : ∀ s, So (MHo_done P W) 4 [(0, aR 100), (1, aI (s.1)), (2, aI (s.2.1))] [] s.2.2 (X4 s)) (x1 : Int) (x2 : Int) (G : St) : SS (MHo_done P W) (lk X4 some) 4 [(0, aR 100), (1, aI x1), (2, aI x2)] [] G (Ho_done_s4 P W x1 x2 G) := by
  refine r_iload_n 5 2 dX1_done_4 rfl rfl rfl ?_
  refine r_aload_n 6 0 dX1_done_5 rfl rfl rfl ?_
  refine r_get 9 (aI P) dX1_done_6 fkX1_77 (fun _ => dsC_100 P W _) nn100 rfl rfl ?_
  refine r_icmp_ge 45 12 dX1_done_9 rfl rfl ?_ ?_
  · refine SS.ex ?_
    refine r_iload_n 46 1 dX1_done_45 rfl rfl rfl ?_
    exact r_ireturn dX1_done_46 rfl
  · refine r_iload_n 13 1 dX1_done_12 rfl rfl rfl ?_
    refine r_aload_n 14 0 dX1_done_13 rfl rfl rfl ?_
    refine r_get 17 (aI (G 100 19)) dX1_done_14 fkX1_154 (fun _ => dsC_100 P W _) nn100 rfl rfl ?_
    refine r_if_eq 36 20 dX1_done_17 rfl rfl ?_ ?_
    · refine r_iconst 37 0 dX1_done_36 rfl rfl ?_
      refine r_to [0, 2] [(0, aR 100), (2, aI x2)] rfl ?_
      exact s_Ho_done_b37 P W X4 hX4 x2 0 x1 G
    · refine r_aload_n 21 0 dX1_done_20 rfl rfl rfl ?_
      refine r_get 24 (aR 103) dX1_done_21 fkX1_122 (fun _ => dsC_100 P W _) nn100 rfl rfl ?_
      refine r_iload_n 25 2 dX1_done_24 rfl rfl rfl ?_
      refine r_aald8q 26 dX1_done_25 (fun _ _ _ => dsC_103 P W _) (fun _ _ => nn103) rfl (fun p1 hp1 => ?_)
      refine r_callvI 29 (Mc := MPa_isDone P W) (o := 1000 + 32 * p1) (as := []) (st := [aI x1]) dX1_done_26 rfl (c_Pa_isDone P W p1 hp1 G) lkX1_188 (cmPa_isDone P W) rfl rfl rfl (fun h => party_c P W hp1 h) (party_n hp1) rfl (Nat.le_of_ble_eq_true rfl) (Nat.le_of_ble_eq_true rfl) (fun _ => rfl) rfl (fun z2 G3 => ?_)
      refine SS.phi (fun VV_ => Ho_done_b37 P W x2 VV_ x1 G3) ?_
      refine r_if_eq 36 32 dX1_done_29 rfl rfl ?_ ?_
      · refine r_iconst 37 0 dX1_done_36 rfl rfl ?_
        refine r_to [0, 2] [(0, aR 100), (2, aI x2)] rfl ?_
        exact s_Ho_done_b37 P W X4 hX4 x2 0 x1 G3
      · refine r_iconst 33 1 dX1_done_32 rfl rfl ?_
        refine r_goto 37 dX1_done_33 rfl ?_
        refine r_to [0, 2] [(0, aR 100), (2, aI x2)] rfl ?_
        exact s_Ho_done_b37 P W X4 hX4 x2 1 x1 G3
theorem sl_Ho_done_4 (P W : Int) (x1 : Int) (x2 : Int) (G : St) : SS (MHo_done P W) some 4 [(0, aR 100), (1, aI x1), (2, aI x2)] [] G (Ho_done_l4 P W x1 x2 G) := by
  exact SS.loop (σ := Int × Int × St) (fun s => [(0, aR 100), (1, aI (s.1)), (2, aI (s.2.1))]) (fun s => s.2.2) (fun s => Ho_done_s4 P W s.1 s.2.1 s.2.2) (fun X4 hX4 s => s_Ho_done_s4 P W   X4 hX4 s.1 s.2.1 s.2.2) (x1, x2, G)
theorem s_Ho_done (P W : Int) (G : St) : SS (MHo_done P W) some 0 [(0, aR 100)] [] G (Ho_done P W G) := by
  refine r_iconst 1 0 dX1_done_0 rfl rfl ?_
  refine r_istore_n 2 [(1, aI 0), (0, aR 100)] dX1_done_1 rfl rfl rfl rfl ?_
  refine r_iconst 3 0 dX1_done_2 rfl rfl ?_
  refine r_istore_n 4 [(2, aI 0), (1, aI 0), (0, aR 100)] dX1_done_3 rfl rfl rfl rfl ?_
  refine r_to [2, 1, 0] [(0, aR 100), (1, aI 0), (2, aI 0)] rfl ?_
  exact sl_Ho_done_4 P W 0 0 G
theorem c_Ho_done (P W : Int) (G : St) : MG (MHo_done P W) [aR 100] G (Ho_done P W G) := MG.of plX1 (Nat.le_of_ble_eq_true rfl) (s_Ho_done P W G)
theorem s_Ho_look_b76 (P W : Int) (G : St) : SS (MHo_look P W) some 76 [(0, aR 100)] [] G (Ho_look_b76 P W G) := by
  refine r_aload_n 77 0 dX1_look_76 rfl rfl rfl ?_
  refine r_get 80 (aR 130) dX1_look_77 fkX1_33 (fun _ => dsC_100 P W _) nn100 rfl rfl ?_
  refine r_get 83 (aI (G 130 1)) dX1_look_80 fkX1_212 (fun _ => dsC_130 P W _) nn130 rfl rfl ?_
  exact r_ireturn dX1_look_83 rfl
theorem s_Ho_look_b84 (P W : Int) (x1 : Int) (G : St) : SS (MHo_look P W) some 84 [(0, aR 100), (1, aI x1)] [] G (Ho_look_b84 P W x1 G) := by
  refine r_aload_n 85 0 dX1_look_84 rfl rfl rfl ?_
  refine r_iload_n 86 1 dX1_look_85 rfl rfl rfl ?_
  refine r_callvI 89 (Mc := MHo_circuitLook P W) (o := 100) (as := [aI x1]) (st := []) dX1_look_86 rfl (c_Ho_circuitLook P W x1 G) lkX1_215 (cmHo_circuitLook P W) rfl rfl rfl (fun _ => dsC_100 P W _) nn100 rfl (Nat.le_of_ble_eq_true rfl) (Nat.le_of_ble_eq_true rfl) (fun _ => rfl) rfl (fun z1 G2 => ?_)
  exact r_ireturn dX1_look_89 rfl
theorem s_Ho_look_b90 (P W : Int) (G : St) : SS (MHo_look P W) some 90 [(0, aR 100)] [] G (Ho_look_b90 P W G) := by
  refine r_aload_n 91 0 dX1_look_90 rfl rfl rfl ?_
  refine r_get 94 (aI (G 100 23)) dX1_look_91 fkX1_157 (fun _ => dsC_100 P W _) nn100 rfl rfl ?_
  exact r_ireturn dX1_look_94 rfl
theorem s_Ho_look_b95 (P W : Int) (G : St) : SS (MHo_look P W) some 95 [(0, aR 100)] [] G (Ho_look_b95 P W G) := by
  refine r_aload_n 96 0 dX1_look_95 rfl rfl rfl ?_
  refine r_get 99 (aI (G 100 24)) dX1_look_96 fkX1_160 (fun _ => dsC_100 P W _) nn100 rfl rfl ?_
  exact r_ireturn dX1_look_99 rfl
theorem s_Ho_look_b100 (P W : Int) (G : St) : SS (MHo_look P W) some 100 [(0, aR 100)] [] G (Ho_look_b100 P W G) := by
  refine r_aload_n 101 0 dX1_look_100 rfl rfl rfl ?_
  refine r_callvI 104 (Mc := MHo_done P W) (o := 100) (as := []) (st := []) dX1_look_101 rfl (c_Ho_done P W G) lkX1_219 (cmHo_done P W) rfl rfl rfl (fun _ => dsC_100 P W _) nn100 rfl (Nat.le_of_ble_eq_true rfl) (Nat.le_of_ble_eq_true rfl) (fun _ => rfl) rfl (fun z3 G4 => ?_)
  exact r_ireturn dX1_look_104 rfl
theorem s_Ho_look_b105 (P W : Int) (G : St) : SS (MHo_look P W) some 105 [(0, aR 100)] [] G (Ho_look_b105 P W G) := by
  refine r_aload_n 106 0 dX1_look_105 rfl rfl rfl ?_
  refine r_get 109 (aI (G 100 18)) dX1_look_106 fkX1_150 (fun _ => dsC_100 P W _) nn100 rfl rfl ?_
  refine SS.phi (fun VV_ => some (VV_, G)) ?_
  refine r_if_ne 116 112 dX1_look_109 rfl rfl ?_ ?_
  · refine r_aload_n 117 0 dX1_look_116 rfl rfl rfl ?_
    refine r_get 120 (aI (G 100 19)) dX1_look_117 fkX1_154 (fun _ => dsC_100 P W _) nn100 rfl rfl ?_
    refine SS.phi (fun VV_ => some (VV_, G)) ?_
    refine r_if_eq 127 123 dX1_look_120 rfl rfl ?_ ?_
    · refine r_iconst 128 1 dX1_look_127 rfl rfl ?_
      exact r_ireturn dX1_look_128 rfl
    · refine r_iconst 124 2 dX1_look_123 rfl rfl ?_
      refine r_goto 128 dX1_look_124 rfl ?_
      exact r_ireturn dX1_look_128 rfl
  · refine r_iconst 113 0 dX1_look_112 rfl rfl ?_
    refine r_goto 128 dX1_look_113 rfl ?_
    exact r_ireturn dX1_look_128 rfl
theorem s_Ho_look_b129 (P W : Int) (G : St) : SS (MHo_look P W) some 129 [(0, aR 100)] [] G (Ho_look_b129 P W G) := by
  refine r_aload_n 130 0 dX1_look_129 rfl rfl rfl ?_
  refine r_get 133 (aR 240) dX1_look_130 fkX1_47 (fun _ => dsC_100 P W _) nn100 rfl rfl ?_
  refine r_get 136 (aI (G 240 2)) dX1_look_133 fkX1_223 (fun _ => dsC_240 P W _) nn240 rfl rfl ?_
  exact r_ireturn dX1_look_136 rfl
theorem s_Ho_look_b137 (P W : Int) (G : St) : SS (MHo_look P W) some 137 [(0, aR 100)] [] G (Ho_look_b137 P W G) := by
  refine r_aload_n 138 0 dX1_look_137 rfl rfl rfl ?_
  refine r_get 141 (aR 240) dX1_look_138 fkX1_47 (fun _ => dsC_100 P W _) nn100 rfl rfl ?_
  refine r_get 144 (aI (G 240 3)) dX1_look_141 fkX1_224 (fun _ => dsC_240 P W _) nn240 rfl rfl ?_
  exact r_ireturn dX1_look_144 rfl
theorem s_Ho_look (P W : Int) (x1 : Int) (G : St) : SS (MHo_look P W) some 0 [(0, aR 100), (1, aI x1)] [] G (Ho_look P W x1 G) := by
  refine r_iload_n 1 1 dX1_look_0 rfl rfl rfl ?_
  refine r_tsw 145 [(76, Ho_look_b76 P W G), (84, Ho_look_b84 P W x1 G), (84, Ho_look_b84 P W x1 G), (84, Ho_look_b84 P W x1 G), (84, Ho_look_b84 P W x1 G), (84, Ho_look_b84 P W x1 G), (84, Ho_look_b84 P W x1 G), (84, Ho_look_b84 P W x1 G), (84, Ho_look_b84 P W x1 G), (90, Ho_look_b90 P W G), (95, Ho_look_b95 P W G), (100, Ho_look_b100 P W G), (105, Ho_look_b105 P W G), (129, Ho_look_b129 P W G), (137, Ho_look_b137 P W G)] dX1_look_1 rfl rfl rfl ⟨?_, ?_, ?_, ?_, ?_, ?_, ?_, ?_, ?_, ?_, ?_, ?_, ?_, ?_, ?_, trivial⟩ ?_
  · refine r_to [0] [(0, aR 100)] rfl ?_
    exact s_Ho_look_b76 P W G
  · exact s_Ho_look_b84 P W x1 G
  · exact s_Ho_look_b84 P W x1 G
  · exact s_Ho_look_b84 P W x1 G
  · exact s_Ho_look_b84 P W x1 G
  · exact s_Ho_look_b84 P W x1 G
  · exact s_Ho_look_b84 P W x1 G
  · exact s_Ho_look_b84 P W x1 G
  · exact s_Ho_look_b84 P W x1 G
  · refine r_to [0] [(0, aR 100)] rfl ?_
    exact s_Ho_look_b90 P W G
  · refine r_to [0] [(0, aR 100)] rfl ?_
    exact s_Ho_look_b95 P W G
  · refine r_to [0] [(0, aR 100)] rfl ?_
    exact s_Ho_look_b100 P W G
  · refine r_to [0] [(0, aR 100)] rfl ?_
    exact s_Ho_look_b105 P W G
  · refine r_to [0] [(0, aR 100)] rfl ?_
    exact s_Ho_look_b129 P W G
  · refine r_to [0] [(0, aR 100)] rfl ?_
    exact s_Ho_look_b137 P W G
  · refine r_iconst 146 (-1) dX1_look_145 rfl rfl ?_
    exact r_ireturn dX1_look_146 rfl
theorem c_Ho_look (P W : Int) (x1 : Int) (G : St) : MG (MHo_look P W) [aR 100, aI x1] G (Ho_look P W x1 G) := MG.of plX1 (Nat.le_of_ble_eq_true rfl) (s_Ho_look P W x1 G)
theorem s_Ho_gate_b56 (P W : Int) (x1 : Int) (G : St) : SS (MHo_gate P W) some 56 [(0, aR 100), (1, aI x1)] [] G (Ho_gate_b56 x1 G) := by
  refine r_aload_n 57 0 dX1_gate_56 rfl rfl rfl ?_
  refine r_get 60 (aR 140) dX1_gate_57 fkX1_40 (fun _ => dsC_100 P W _) nn100 rfl rfl ?_
  refine r_get 63 (aR 144) dX1_gate_60 fkX1_227 (fun _ => dsC_140 P W _) nn140 rfl rfl ?_
  refine r_iload_n 64 1 dX1_gate_63 rfl rfl rfl ?_
  refine r_zald 65 dX1_gate_64 (fun _ _ _ => dsC_144 P W _) (fun _ _ => nn144) rfl ?_
  refine SS.phi (fun VV_ => some (VV_, G)) ?_
  refine r_if_eq 72 68 dX1_gate_65 rfl rfl ?_ ?_
  · refine r_iconst 73 0 dX1_gate_72 rfl rfl ?_
    exact r_ireturn dX1_gate_73 rfl
  · refine r_iconst 69 1 dX1_gate_68 rfl rfl ?_
    refine r_goto 73 dX1_gate_69 rfl ?_
    exact r_ireturn dX1_gate_73 rfl
theorem s_Ho_gate_b74 (P W : Int) (x1 : Int) (G : St) : SS (MHo_gate P W) some 74 [(0, aR 100), (1, aI x1)] [] G (Ho_gate_b74 x1 G) := by
  refine r_aload_n 75 0 dX1_gate_74 rfl rfl rfl ?_
  refine r_get 78 (aR 140) dX1_gate_75 fkX1_40 (fun _ => dsC_100 P W _) nn100 rfl rfl ?_
  refine r_get 81 (aR 143) dX1_gate_78 fkX1_231 (fun _ => dsC_140 P W _) nn140 rfl rfl ?_
  refine r_iload_n 82 1 dX1_gate_81 rfl rfl rfl ?_
  refine r_sald 83 dX1_gate_82 (fun _ _ _ => dsC_143 P W _) (fun _ _ => nn143) rfl ?_
  exact r_ireturn dX1_gate_83 rfl
theorem s_Ho_gate_b84 (P W : Int) (x1 : Int) (G : St) : SS (MHo_gate P W) some 84 [(0, aR 100), (1, aI x1)] [] G (Ho_gate_b84 x1 G) := by
  refine r_aload_n 85 0 dX1_gate_84 rfl rfl rfl ?_
  refine r_get 88 (aR 140) dX1_gate_85 fkX1_40 (fun _ => dsC_100 P W _) nn100 rfl rfl ?_
  refine r_get 91 (aR 141) dX1_gate_88 fkX1_235 (fun _ => dsC_140 P W _) nn140 rfl rfl ?_
  refine r_iload_n 92 1 dX1_gate_91 rfl rfl rfl ?_
  refine r_iald 93 dX1_gate_92 (fun _ _ _ => dsC_141 P W _) (fun _ _ => nn141) rfl ?_
  exact r_ireturn dX1_gate_93 rfl
theorem s_Ho_gate_b94 (P W : Int) (x1 : Int) (G : St) : SS (MHo_gate P W) some 94 [(0, aR 100), (1, aI x1)] [] G (Ho_gate_b94 x1 G) := by
  refine r_aload_n 95 0 dX1_gate_94 rfl rfl rfl ?_
  refine r_get 98 (aR 140) dX1_gate_95 fkX1_40 (fun _ => dsC_100 P W _) nn100 rfl rfl ?_
  refine r_get 101 (aR 142) dX1_gate_98 fkX1_238 (fun _ => dsC_140 P W _) nn140 rfl rfl ?_
  refine r_iload_n 102 1 dX1_gate_101 rfl rfl rfl ?_
  refine r_iald 103 dX1_gate_102 (fun _ _ _ => dsC_142 P W _) (fun _ _ => nn142) rfl ?_
  exact r_ireturn dX1_gate_103 rfl
theorem s_Ho_gate (P W : Int) (x1 : Int) (x2 : Int) (G : St) : SS (MHo_gate P W) some 0 [(0, aR 100), (1, aI x1), (2, aI x2)] [] G (Ho_gate x1 x2 G) := by
  refine r_aload_n 1 0 dX1_gate_0 rfl rfl rfl ?_
  refine r_get 4 (aI (G 100 18)) dX1_gate_1 fkX1_150 (fun _ => dsC_100 P W _) nn100 rfl rfl ?_
  refine r_if_eq 22 7 dX1_gate_4 rfl rfl ?_ ?_
  · refine r_iconst 23 (-1) dX1_gate_22 rfl rfl ?_
    exact r_ireturn dX1_gate_23 rfl
  · refine r_iload_n 8 1 dX1_gate_7 rfl rfl rfl ?_
    refine r_if_lt 22 11 dX1_gate_8 rfl rfl ?_ ?_
    · refine r_iconst 23 (-1) dX1_gate_22 rfl rfl ?_
      exact r_ireturn dX1_gate_23 rfl
    · refine r_iload_n 12 1 dX1_gate_11 rfl rfl rfl ?_
      refine r_aload_n 13 0 dX1_gate_12 rfl rfl rfl ?_
      refine r_get 16 (aR 140) dX1_gate_13 fkX1_40 (fun _ => dsC_100 P W _) nn100 rfl rfl ?_
      refine r_get 19 (aI (G 140 4)) dX1_gate_16 fkX1_191 (fun _ => dsC_140 P W _) nn140 rfl rfl ?_
      refine r_icmp_lt 24 22 dX1_gate_19 rfl rfl ?_ ?_
      · refine r_iload_n 25 2 dX1_gate_24 rfl rfl rfl ?_
        refine r_tsw 104 [(56, Ho_gate_b56 x1 G), (74, Ho_gate_b74 x1 G), (84, Ho_gate_b84 x1 G), (94, Ho_gate_b94 x1 G)] dX1_gate_25 rfl rfl rfl ⟨?_, ?_, ?_, ?_, trivial⟩ ?_
        · refine r_to [0, 1] [(0, aR 100), (1, aI x1)] rfl ?_
          exact s_Ho_gate_b56 P W x1 G
        · refine r_to [0, 1] [(0, aR 100), (1, aI x1)] rfl ?_
          exact s_Ho_gate_b74 P W x1 G
        · refine r_to [0, 1] [(0, aR 100), (1, aI x1)] rfl ?_
          exact s_Ho_gate_b84 P W x1 G
        · refine r_to [0, 1] [(0, aR 100), (1, aI x1)] rfl ?_
          exact s_Ho_gate_b94 P W x1 G
        · refine r_iconst 105 (-1) dX1_gate_104 rfl rfl ?_
          exact r_ireturn dX1_gate_105 rfl
      · refine r_iconst 23 (-1) dX1_gate_22 rfl rfl ?_
        exact r_ireturn dX1_gate_23 rfl
theorem c_Ho_gate (P W : Int) (x1 : Int) (x2 : Int) (G : St) : MG (MHo_gate P W) [aR 100, aI x1, aI x2] G (Ho_gate x1 x2 G) := MG.of plX1 (Nat.le_of_ble_eq_true rfl) (s_Ho_gate P W x1 x2 G)
theorem s_Ho_isOutput (P W : Int) (x1 : Int) (G : St) : SS (MHo_isOutput P W) some 0 [(0, aR 100), (1, aI x1)] [] G (Ho_isOutput x1 G) := by
  refine r_aload_n 1 0 dX1_isOutput_0 rfl rfl rfl ?_
  refine r_get 4 (aI (G 100 18)) dX1_isOutput_1 fkX1_150 (fun _ => dsC_100 P W _) nn100 rfl rfl ?_
  refine SS.phi (fun VV_ => ckB VV_ 2 (some (VV_, G))) ?_
  refine r_if_eq 26 7 dX1_isOutput_4 rfl rfl ?_ ?_
  · refine r_iconst 27 0 dX1_isOutput_26 rfl rfl ?_
    exact r_zreturn dX1_isOutput_27 rfl
  · refine r_iload_n 8 1 dX1_isOutput_7 rfl rfl rfl ?_
    refine SS.phi (fun VV_ => ckB VV_ 2 (some (VV_, G))) ?_
    refine r_if_lt 26 11 dX1_isOutput_8 rfl rfl ?_ ?_
    · refine r_iconst 27 0 dX1_isOutput_26 rfl rfl ?_
      exact r_zreturn dX1_isOutput_27 rfl
    · refine r_iload_n 12 1 dX1_isOutput_11 rfl rfl rfl ?_
      refine r_aload_n 13 0 dX1_isOutput_12 rfl rfl rfl ?_
      refine r_get 16 (aR 180) dX1_isOutput_13 fkX1_107 (fun _ => dsC_100 P W _) nn100 rfl rfl ?_
      refine r_get 19 (aI (G 180 32)) dX1_isOutput_16 fkX1_206 (fun _ => dsC_180 P W _) nn180 rfl rfl ?_
      refine SS.phi (fun VV_ => ckB VV_ 2 (some (VV_, G))) ?_
      refine r_icmp_ge 26 22 dX1_isOutput_19 rfl rfl ?_ ?_
      · refine r_iconst 27 0 dX1_isOutput_26 rfl rfl ?_
        exact r_zreturn dX1_isOutput_27 rfl
      · refine r_iconst 23 1 dX1_isOutput_22 rfl rfl ?_
        refine r_goto 27 dX1_isOutput_23 rfl ?_
        exact r_zreturn dX1_isOutput_27 rfl
theorem c_Ho_isOutput (P W : Int) (x1 : Int) (G : St) : MG (MHo_isOutput P W) [aR 100, aI x1] G (Ho_isOutput x1 G) := MG.of plX1 (Nat.le_of_ble_eq_true rfl) (s_Ho_isOutput P W x1 G)
theorem s_Ho_literal (P W : Int) (x1 : Int) (x2 : Int) (G : St) : SS (MHo_literal P W) some 0 [(0, aR 100), (1, aI x1), (2, aI x2)] [] G (Ho_literal P W x1 x2 G) := by
  refine r_aload_n 1 0 dX1_literal_0 rfl rfl rfl ?_
  refine r_iload_n 2 1 dX1_literal_1 rfl rfl rfl ?_
  refine r_callvI 5 (Mc := MHo_isOutput P W) (o := 100) (as := [aI x1]) (st := []) dX1_literal_2 rfl (c_Ho_isOutput P W x1 G) lkX1_241 (cmHo_isOutput P W) rfl rfl rfl (fun _ => dsC_100 P W _) nn100 rfl (Nat.le_of_ble_eq_true rfl) (Nat.le_of_ble_eq_true rfl) (fun _ => rfl) rfl (fun z1 G2 => ?_)
  refine r_if_eq 44 8 dX1_literal_5 rfl rfl ?_ ?_
  · refine r_bipush 46 (-3) dX1_literal_44 rfl rfl ?_
    exact r_ireturn dX1_literal_46 rfl
  · refine r_iload_n 9 2 dX1_literal_8 rfl rfl rfl ?_
    refine r_if_lt 44 12 dX1_literal_9 rfl rfl ?_ ?_
    · refine r_bipush 46 (-3) dX1_literal_44 rfl rfl ?_
      exact r_ireturn dX1_literal_46 rfl
    · refine r_iload_n 13 2 dX1_literal_12 rfl rfl rfl ?_
      refine r_aload_n 14 0 dX1_literal_13 rfl rfl rfl ?_
      refine r_get 17 (aR 180) dX1_literal_14 fkX1_107 (fun _ => dsC_100 P W _) nn100 rfl rfl ?_
      refine r_get 20 (aR 204) dX1_literal_17 fkX1_245 (fun _ => dsC_180 P W _) nn180 rfl rfl ?_
      refine r_iload_n 21 1 dX1_literal_20 rfl rfl rfl ?_
      refine r_iald 22 dX1_literal_21 (fun _ _ _ => dsC_204 P W _) (fun _ _ => nn204) rfl ?_
      refine r_icmp_ge 44 25 dX1_literal_22 rfl rfl ?_ ?_
      · refine r_bipush 46 (-3) dX1_literal_44 rfl rfl ?_
        exact r_ireturn dX1_literal_46 rfl
      · refine r_aload_n 26 0 dX1_literal_25 rfl rfl rfl ?_
        refine r_get 29 (aR 180) dX1_literal_26 fkX1_107 (fun _ => dsC_100 P W _) nn100 rfl rfl ?_
        refine r_get 32 (aR 203) dX1_literal_29 fkX1_248 (fun _ => dsC_180 P W _) nn180 rfl rfl ?_
        refine r_aload_n 33 0 dX1_literal_32 rfl rfl rfl ?_
        refine r_get 36 (aI W) dX1_literal_33 fkX1_81 (fun _ => dsC_100 P W _) nn100 rfl rfl ?_
        refine r_iload_n 37 1 dX1_literal_36 rfl rfl rfl ?_
        refine r_imul 38 dX1_literal_37 rfl ?_
        refine r_iload_n 39 2 dX1_literal_38 rfl rfl rfl ?_
        refine r_iadd 40 dX1_literal_39 rfl ?_
        refine r_iald 41 dX1_literal_40 (fun _ _ _ => dsC_203 P W _) (fun _ _ => nn203) rfl ?_
        refine r_goto 46 dX1_literal_41 rfl ?_
        exact r_ireturn dX1_literal_46 rfl
theorem c_Ho_literal (P W : Int) (x1 : Int) (x2 : Int) (G : St) : MG (MHo_literal P W) [aR 100, aI x1, aI x2] G (Ho_literal P W x1 x2 G) := MG.of plX1 (Nat.le_of_ble_eq_true rfl) (s_Ho_literal P W x1 x2 G)
theorem s_Ho_isInput (P W : Int) (x1 : Int) (G : St) : SS (MHo_isInput P W) some 0 [(0, aR 100), (1, aI x1)] [] G (Ho_isInput x1 G) := by
  refine r_aload_n 1 0 dX1_isInput_0 rfl rfl rfl ?_
  refine r_get 4 (aI (G 100 18)) dX1_isInput_1 fkX1_150 (fun _ => dsC_100 P W _) nn100 rfl rfl ?_
  refine SS.phi (fun VV_ => ckB VV_ 2 (some (VV_, G))) ?_
  refine r_if_eq 26 7 dX1_isInput_4 rfl rfl ?_ ?_
  · refine r_iconst 27 0 dX1_isInput_26 rfl rfl ?_
    exact r_zreturn dX1_isInput_27 rfl
  · refine r_iload_n 8 1 dX1_isInput_7 rfl rfl rfl ?_
    refine SS.phi (fun VV_ => ckB VV_ 2 (some (VV_, G))) ?_
    refine r_if_lt 26 11 dX1_isInput_8 rfl rfl ?_ ?_
    · refine r_iconst 27 0 dX1_isInput_26 rfl rfl ?_
      exact r_zreturn dX1_isInput_27 rfl
    · refine r_iload_n 12 1 dX1_isInput_11 rfl rfl rfl ?_
      refine r_aload_n 13 0 dX1_isInput_12 rfl rfl rfl ?_
      refine r_get 16 (aR 180) dX1_isInput_13 fkX1_107 (fun _ => dsC_100 P W _) nn100 rfl rfl ?_
      refine r_get 19 (aI (G 180 13)) dX1_isInput_16 fkX1_203 (fun _ => dsC_180 P W _) nn180 rfl rfl ?_
      refine SS.phi (fun VV_ => ckB VV_ 2 (some (VV_, G))) ?_
      refine r_icmp_ge 26 22 dX1_isInput_19 rfl rfl ?_ ?_
      · refine r_iconst 27 0 dX1_isInput_26 rfl rfl ?_
        exact r_zreturn dX1_isInput_27 rfl
      · refine r_iconst 23 1 dX1_isInput_22 rfl rfl ?_
        refine r_goto 27 dX1_isInput_23 rfl ?_
        exact r_zreturn dX1_isInput_27 rfl
theorem c_Ho_isInput (P W : Int) (x1 : Int) (G : St) : MG (MHo_isInput P W) [aR 100, aI x1] G (Ho_isInput x1 G) := MG.of plX1 (Nat.le_of_ble_eq_true rfl) (s_Ho_isInput P W x1 G)
theorem s_Ho_input_b40 (P W : Int) (x1 : Int) (G : St) : SS (MHo_input P W) some 40 [(0, aR 100), (1, aI x1)] [] G (Ho_input_b40 x1 G) := by
  refine r_aload_n 41 0 dX1_input_40 rfl rfl rfl ?_
  refine r_get 44 (aR 180) dX1_input_41 fkX1_107 (fun _ => dsC_100 P W _) nn100 rfl rfl ?_
  refine r_get 47 (aR 184) dX1_input_44 fkX1_256 (fun _ => dsC_180 P W _) nn180 rfl rfl ?_
  refine r_iload_n 48 1 dX1_input_47 rfl rfl rfl ?_
  refine r_iald 49 dX1_input_48 (fun _ _ _ => dsC_184 P W _) (fun _ _ => nn184) rfl ?_
  refine r_i2l 50 dX1_input_49 rfl ?_
  exact r_lreturn dX1_input_50 rfl
theorem s_Ho_input_b51 (P W : Int) (x1 : Int) (G : St) : SS (MHo_input P W) some 51 [(0, aR 100), (1, aI x1)] [] G (Ho_input_b51 x1 G) := by
  refine r_aload_n 52 0 dX1_input_51 rfl rfl rfl ?_
  refine r_get 55 (aR 180) dX1_input_52 fkX1_107 (fun _ => dsC_100 P W _) nn100 rfl rfl ?_
  refine r_get 58 (aR 183) dX1_input_55 fkX1_259 (fun _ => dsC_180 P W _) nn180 rfl rfl ?_
  refine r_iload_n 59 1 dX1_input_58 rfl rfl rfl ?_
  refine r_iald 60 dX1_input_59 (fun _ _ _ => dsC_183 P W _) (fun _ _ => nn183) rfl ?_
  refine r_i2l 61 dX1_input_60 rfl ?_
  exact r_lreturn dX1_input_61 rfl
theorem s_Ho_input_b62 (P W : Int) (x1 : Int) (G : St) : SS (MHo_input P W) some 62 [(0, aR 100), (1, aI x1)] [] G (Ho_input_b62 x1 G) := by
  refine r_aload_n 63 0 dX1_input_62 rfl rfl rfl ?_
  refine r_get 66 (aR 104) dX1_input_63 fkX1_51 (fun _ => dsC_100 P W _) nn100 rfl rfl ?_
  refine r_iload_n 67 1 dX1_input_66 rfl rfl rfl ?_
  refine r_iald 68 dX1_input_67 (fun _ _ _ => dsC_104 P W _) (fun _ _ => nn104) rfl ?_
  refine r_i2l 69 dX1_input_68 rfl ?_
  refine r_lconst 70 1 dX1_input_69 rfl rfl rfl ?_
  refine r_aload_n 71 0 dX1_input_70 rfl rfl rfl ?_
  refine r_get 74 (aR 180) dX1_input_71 fkX1_107 (fun _ => dsC_100 P W _) nn100 rfl rfl ?_
  refine r_get 77 (aR 183) dX1_input_74 fkX1_259 (fun _ => dsC_180 P W _) nn180 rfl rfl ?_
  refine r_iload_n 78 1 dX1_input_77 rfl rfl rfl ?_
  refine r_iald 79 dX1_input_78 (fun _ _ _ => dsC_183 P W _) (fun _ _ => nn183) rfl ?_
  refine r_lshl 80 dX1_input_79 rfl ?_
  refine r_lconst 81 1 dX1_input_80 rfl rfl rfl ?_
  refine r_lsub 82 dX1_input_81 rfl ?_
  refine r_land 83 dX1_input_82 rfl ?_
  exact r_lreturn dX1_input_83 rfl
theorem s_Ho_input_b84 (P W : Int) (G : St) : SS (MHo_input P W) some 84 [] [] G (Ho_input_b84 G) := by
  refine r_ldc2 87 (-1) dX1_input_84 q1660 (by decide) rfl rfl ?_
  exact r_lreturn dX1_input_87 rfl
theorem s_Ho_input (P W : Int) (x1 : Int) (x2 : Int) (G : St) : SS (MHo_input P W) some 0 [(0, aR 100), (1, aI x1), (2, aI x2)] [] G (Ho_input x1 x2 G) := by
  refine r_aload_n 1 0 dX1_input_0 rfl rfl rfl ?_
  refine r_iload_n 2 1 dX1_input_1 rfl rfl rfl ?_
  refine r_callvI 5 (Mc := MHo_isInput P W) (o := 100) (as := [aI x1]) (st := []) dX1_input_2 rfl (c_Ho_isInput P W x1 G) lkX1_251 (cmHo_isInput P W) rfl rfl rfl (fun _ => dsC_100 P W _) nn100 rfl (Nat.le_of_ble_eq_true rfl) (Nat.le_of_ble_eq_true rfl) (fun _ => rfl) rfl (fun z1 G2 => ?_)
  refine r_if_ne 12 8 dX1_input_5 rfl rfl ?_ ?_
  · refine r_iload_n 13 2 dX1_input_12 rfl rfl rfl ?_
    refine r_tsw 84 [(40, Ho_input_b40 x1 G2), (51, Ho_input_b51 x1 G2), (62, Ho_input_b62 x1 G2)] dX1_input_13 rfl rfl rfl ⟨?_, ?_, ?_, trivial⟩ ?_
    · refine r_to [0, 1] [(0, aR 100), (1, aI x1)] rfl ?_
      exact s_Ho_input_b40 P W x1 G2
    · refine r_to [0, 1] [(0, aR 100), (1, aI x1)] rfl ?_
      exact s_Ho_input_b51 P W x1 G2
    · refine r_to [0, 1] [(0, aR 100), (1, aI x1)] rfl ?_
      exact s_Ho_input_b62 P W x1 G2
    · refine r_to [] [] rfl ?_
      exact s_Ho_input_b84 P W G2
  · refine r_ldc2 11 (-1) dX1_input_8 q1660 (by decide) rfl rfl ?_
    exact r_lreturn dX1_input_11 rfl
theorem c_Ho_input (P W : Int) (x1 : Int) (x2 : Int) (G : St) : MG (MHo_input P W) [aR 100, aI x1, aI x2] G (Ho_input x1 x2 G) := MG.of plX1 (Nat.le_of_ble_eq_true rfl) (s_Ho_input P W x1 x2 G)
theorem s_Ho_give (P W : Int) (x1 : Int) (x2 : Int) (G : St) : SS (MHo_give P W) some 0 [(0, aR 100), (1, aI x1), (2, aI x2)] [] G (Ho_give x1 x2 G) := by
  refine r_aload_n 1 0 dX1_give_0 rfl rfl rfl ?_
  refine r_iload_n 2 1 dX1_give_1 rfl rfl rfl ?_
  refine r_callvI 5 (Mc := MHo_isInput P W) (o := 100) (as := [aI x1]) (st := []) dX1_give_2 rfl (c_Ho_isInput P W x1 G) lkX1_251 (cmHo_isInput P W) rfl rfl rfl (fun _ => dsC_100 P W _) nn100 rfl (Nat.le_of_ble_eq_true rfl) (Nat.le_of_ble_eq_true rfl) (fun _ => rfl) rfl (fun z1 G2 => ?_)
  refine r_if_ne 10 8 dX1_give_5 rfl rfl ?_ ?_
  · refine r_aload_n 11 0 dX1_give_10 rfl rfl rfl ?_
    refine r_get 14 (aR 104) dX1_give_11 fkX1_51 (fun _ => dsC_100 P W _) nn100 rfl rfl ?_
    refine r_iload_n 15 1 dX1_give_14 rfl rfl rfl ?_
    refine r_iload_n 16 2 dX1_give_15 rfl rfl rfl ?_
    refine r_iast 17 dX1_give_16 (fun _ _ _ => dsC_104 P W _) (fun _ _ => nn104) rfl ?_
    refine ss_tk (fun G3 => ?_)
    refine r_iconst 18 1 dX1_give_17 rfl rfl ?_
    exact r_zreturn dX1_give_18 rfl
  · refine r_iconst 9 0 dX1_give_8 rfl rfl ?_
    exact r_zreturn dX1_give_9 rfl
theorem c_Ho_give (P W : Int) (x1 : Int) (x2 : Int) (G : St) : MG (MHo_give P W) [aR 100, aI x1, aI x2] G (Ho_give x1 x2 G) := MG.of plX1 (Nat.le_of_ble_eq_true rfl) (s_Ho_give P W x1 x2 G)
theorem s_Ho_seed (P W : Int) (x1 : Int) (G : St) : SS (MHo_seed P W) some 0 [(0, aR 100), (1, aI x1)] [] G (Ho_seed x1 G) := by
  refine r_aload_n 1 0 dX1_seed_0 rfl rfl rfl ?_
  refine r_get 4 (aR 240) dX1_seed_1 fkX1_47 (fun _ => dsC_100 P W _) nn100 rfl rfl ?_
  refine r_iload_n 5 1 dX1_seed_4 rfl rfl rfl ?_
  refine r_putI 8 dX1_seed_5 fkX1_224 (fun _ => dsC_240 P W _) nn240 rfl rfl ?_
  refine ss_tk (fun G1 => ?_)
  exact r_return dX1_seed_8 rfl
theorem c_Ho_seed (P W : Int) (x1 : Int) (G : St) : MG (MHo_seed P W) [aR 100, aI x1] G (Ho_seed x1 G) := MG.of plX1 (Nat.le_of_ble_eq_true rfl) (s_Ho_seed P W x1 G)
theorem s_Bt_set (P W : Int) (o : Int) (hB : isB o) (x1 : Int) (x2 : Int) (G : St) : SS (MBt_set P W) some 0 [(0, aR o), (1, aI x1), (2, aI x2)] [] G (Bt_set o x1 x2 G) := by
  refine r_aload_n 1 0 dX7_set_0 rfl rfl rfl ?_
  refine r_get 4 (aR (o + 1)) dX7_set_1 fkX7_7 (fun h => isB_c P W hB h) (isB_n hB) rfl rfl ?_
  refine r_iload_n 5 1 dX7_set_4 rfl rfl rfl ?_
  refine r_bipush 7 64 dX7_set_5 rfl rfl ?_
  refine r_idiv 8 dX7_set_7 rfl ?_
  refine r_aload_n 9 0 dX7_set_8 rfl rfl rfl ?_
  refine r_get 12 (aR (o + 1)) dX7_set_9 fkX7_7 (fun h => isB_c P W hB h) (isB_n hB) rfl rfl ?_
  refine r_iload_n 13 1 dX7_set_12 rfl rfl rfl ?_
  refine r_bipush 15 64 dX7_set_13 rfl rfl ?_
  refine r_idiv 16 dX7_set_15 rfl ?_
  refine r_lald 17 dX7_set_16 (fun h _ _ => isB_w P W hB h) (fun _ _ => isB_wn hB) rfl ?_
  refine r_lconst 18 1 dX7_set_17 rfl rfl rfl ?_
  refine r_iload_n 19 1 dX7_set_18 rfl rfl rfl ?_
  refine r_bipush 21 64 dX7_set_19 rfl rfl ?_
  refine r_irem 22 dX7_set_21 rfl ?_
  refine r_lshl 23 dX7_set_22 rfl ?_
  refine r_ldc2 26 (-1) dX7_set_23 q1681 (by decide) rfl rfl ?_
  refine r_lxor 27 dX7_set_26 rfl ?_
  refine r_land 28 dX7_set_27 rfl ?_
  refine r_iload_n 29 2 dX7_set_28 rfl rfl rfl ?_
  refine r_i2l 30 dX7_set_29 rfl ?_
  refine r_iload_n 31 1 dX7_set_30 rfl rfl rfl ?_
  refine r_bipush 33 64 dX7_set_31 rfl rfl ?_
  refine r_irem 34 dX7_set_33 rfl ?_
  refine r_lshl 35 dX7_set_34 rfl ?_
  refine r_lor 36 dX7_set_35 rfl ?_
  refine r_last 37 dX7_set_36 (fun h _ _ => isB_w P W hB h) (fun _ _ => isB_wn hB) rfl ?_
  refine ss_tk (fun G1 => ?_)
  exact r_return dX7_set_37 rfl
theorem c_Bt_set (P W : Int) (o : Int) (hB : isB o) (x1 : Int) (x2 : Int) (G : St) : MG (MBt_set P W) [aR o, aI x1, aI x2] G (Bt_set o x1 x2 G) := MG.of plX7 (Nat.le_of_ble_eq_true rfl) (s_Bt_set P W o hB x1 x2 G)
theorem s_Dr_add_s17 (P W : Int) (x1 : Int) (x3 : Int) (X17 : Int × St → Option (Int × St)) (hX17 : ∀ s, So (MDr_add P W) 17 [(0, aR 240), (1, aL x1), (3, aI x3), (4, aI (s.1))] [] s.2 (X17 s)) (x4 : Int) (G : St) : SS (MDr_add P W) (lk X17 some) 17 [(0, aR 240), (1, aL x1), (3, aI x3), (4, aI x4)] [] G (Dr_add_s17 x1 x3 x4 G) := by
  refine r_iload 19 3 dX6_add_17 rfl rfl ?_
  refine r_iload_n 20 2 dX6_add_19 rfl rfl rfl ?_
  refine r_icmp_ge 59 23 dX6_add_20 rfl rfl ?_ ?_
  · refine SS.ex ?_
    refine r_aload_n 60 0 dX6_add_59 rfl rfl rfl ?_
    refine r_dup 61 dX6_add_60 rfl rfl ?_
    refine r_get 64 (aI (G 240 2)) dX6_add_61 fkX6_24 (fun _ => dsC_240 P W _) nn240 rfl rfl ?_
    refine r_iload_n 65 2 dX6_add_64 rfl rfl rfl ?_
    refine r_iadd 66 dX6_add_65 rfl ?_
    refine r_putI 69 dX6_add_66 fkX6_24 (fun _ => dsC_240 P W _) nn240 rfl rfl ?_
    refine ss_tk (fun G1 => ?_)
    refine r_iconst 70 1 dX6_add_69 rfl rfl ?_
    exact r_zreturn dX6_add_70 rfl
  · refine r_aload_n 24 0 dX6_add_23 rfl rfl rfl ?_
    refine r_get 27 (aR 241) dX6_add_24 fkX6_14 (fun _ => dsC_240 P W _) nn240 rfl rfl ?_
    refine r_aload_n 28 0 dX6_add_27 rfl rfl rfl ?_
    refine r_get 31 (aI (G 240 1)) dX6_add_28 fkX6_27 (fun _ => dsC_240 P W _) nn240 rfl rfl ?_
    refine r_aload_n 32 0 dX6_add_31 rfl rfl rfl ?_
    refine r_get 35 (aI (G 240 2)) dX6_add_32 fkX6_24 (fun _ => dsC_240 P W _) nn240 rfl rfl ?_
    refine r_iadd 36 dX6_add_35 rfl ?_
    refine r_iload 38 3 dX6_add_36 rfl rfl ?_
    refine r_iadd 39 dX6_add_38 rfl ?_
    refine r_sipush 42 2000 dX6_add_39 rfl rfl ?_
    refine r_irem 43 dX6_add_42 rfl ?_
    refine r_lload_n 44 1 dX6_add_43 rfl rfl rfl ?_
    refine r_iload 46 3 dX6_add_44 rfl rfl ?_
    refine r_lushr 47 dX6_add_46 rfl ?_
    refine r_l2iw 48 dX6_add_47 rfl ?_
    refine r_iconst 49 1 dX6_add_48 rfl rfl ?_
    refine r_iand 50 dX6_add_49 rfl ?_
    refine r_callvV 53 (Mc := MBt_set P W) (o := 241) (as := [aI ((((G 240 1) + (G 240 2)) + x4) % 2000), aI (j_an (w32 (j_lus x1 x4)) 1)]) (st := []) dX6_add_50 rfl (c_Bt_set P W 241 isB_241 ((((G 240 1) + (G 240 2)) + x4) % 2000) (j_an (w32 (j_lus x1 x4)) 1) G) lkX6_30 (cmBt_set P W) rfl rfl rfl (fun h => isB_c P W isB_241 h) (isB_n isB_241) rfl (Nat.le_of_ble_eq_true rfl) (Nat.le_of_ble_eq_true rfl) (fun _ => rfl) rfl (fun z2 G3 => ?_)
    refine r_iinc 56 [(4, aI (x4 + 1)), (0, aR 240), (1, aL x1), (3, aI x3)] 3 dX6_add_53 rfl rfl rfl rfl ?_
    refine r_goto 17 dX6_add_56 rfl ?_
    refine r_to [1, 2, 3, 0] [(0, aR 240), (1, aL x1), (3, aI x3), (4, aI (x4 + 1))] rfl ?_
    exact SS.back (hX17 (x4 + 1, G3))
theorem sl_Dr_add_17 (P W : Int) (x1 : Int) (x3 : Int) (x4 : Int) (G : St) : SS (MDr_add P W) some 17 [(0, aR 240), (1, aL x1), (3, aI x3), (4, aI x4)] [] G (Dr_add_l17 x1 x3 x4 G) := by
  exact SS.loop (σ := Int × St) (fun s => [(0, aR 240), (1, aL x1), (3, aI x3), (4, aI (s.1))]) (fun s => s.2) (fun s => Dr_add_s17 x1 x3 s.1 s.2) (fun X17 hX17 s => s_Dr_add_s17 P W x1 x3  X17 hX17 s.1 s.2) (x4, G)
theorem s_Dr_add (P W : Int) (x1 : Int) (x3 : Int) (G : St) : SS (MDr_add P W) some 0 [(0, aR 240), (1, aL x1), (3, aI x3)] [] G (Dr_add x1 x3 G) := by
  refine r_aload_n 1 0 dX6_add_0 rfl rfl rfl ?_
  refine r_get 4 (aI (G 240 2)) dX6_add_1 fkX6_24 (fun _ => dsC_240 P W _) nn240 rfl rfl ?_
  refine r_iload_n 5 2 dX6_add_4 rfl rfl rfl ?_
  refine r_iadd 6 dX6_add_5 rfl ?_
  refine r_sipush 9 2000 dX6_add_6 rfl rfl ?_
  refine r_icmp_le 14 12 dX6_add_9 rfl rfl ?_ ?_
  · refine r_iconst 15 0 dX6_add_14 rfl rfl ?_
    refine r_istore 17 [(4, aI 0), (0, aR 240), (1, aL x1), (3, aI x3)] dX6_add_15 rfl rfl rfl ?_
    refine r_to [1, 2, 3, 0] [(0, aR 240), (1, aL x1), (3, aI x3), (4, aI 0)] rfl ?_
    exact sl_Dr_add_17 P W x1 x3 0 G
  · refine r_iconst 13 0 dX6_add_12 rfl rfl ?_
    exact r_zreturn dX6_add_13 rfl
theorem c_Dr_add (P W : Int) (x1 : Int) (x3 : Int) (G : St) : MG (MDr_add P W) [aR 240, aL x1, aI x3] G (Dr_add x1 x3 G) := MG.of plX6 (Nat.le_of_ble_eq_true rfl) (s_Dr_add P W x1 x3 G)
theorem s_Ho_draws (P W : Int) (x1 : Int) (x3 : Int) (G : St) : SS (MHo_draws P W) some 0 [(0, aR 100), (1, aL x1), (3, aI x3)] [] G (Ho_draws x1 x3 G) := by
  refine r_iload_n 1 2 dX1_draws_0 rfl rfl rfl ?_
  refine r_if_lt 32 4 dX1_draws_1 rfl rfl ?_ ?_
  · refine r_iconst 33 (-1) dX1_draws_32 rfl rfl ?_
    exact r_ireturn dX1_draws_33 rfl
  · refine r_iload_n 5 2 dX1_draws_4 rfl rfl rfl ?_
    refine r_bipush 7 64 dX1_draws_5 rfl rfl ?_
    refine r_icmp_gt 32 10 dX1_draws_7 rfl rfl ?_ ?_
    · refine r_iconst 33 (-1) dX1_draws_32 rfl rfl ?_
      exact r_ireturn dX1_draws_33 rfl
    · refine r_aload_n 11 0 dX1_draws_10 rfl rfl rfl ?_
      refine r_get 14 (aR 240) dX1_draws_11 fkX1_47 (fun _ => dsC_100 P W _) nn100 rfl rfl ?_
      refine r_lload_n 15 1 dX1_draws_14 rfl rfl rfl ?_
      refine r_iload_n 16 2 dX1_draws_15 rfl rfl rfl ?_
      refine r_callvI 19 (Mc := MDr_add P W) (o := 240) (as := [aL x1, aI x3]) (st := []) dX1_draws_16 rfl (c_Dr_add P W x1 x3 G) lkX1_262 (cmDr_add P W) rfl rfl rfl (fun _ => dsC_240 P W _) nn240 rfl (Nat.le_of_ble_eq_true rfl) (Nat.le_of_ble_eq_true rfl) (fun _ => rfl) rfl (fun z1 G2 => ?_)
      refine SS.phi (fun VV_ => some (VV_, G2)) ?_
      refine r_if_eq 32 22 dX1_draws_19 rfl rfl ?_ ?_
      · refine r_iconst 33 (-1) dX1_draws_32 rfl rfl ?_
        exact r_ireturn dX1_draws_33 rfl
      · refine r_aload_n 23 0 dX1_draws_22 rfl rfl rfl ?_
        refine r_get 26 (aR 240) dX1_draws_23 fkX1_47 (fun _ => dsC_100 P W _) nn100 rfl rfl ?_
        refine r_get 29 (aI (G2 240 2)) dX1_draws_26 fkX1_223 (fun _ => dsC_240 P W _) nn240 rfl rfl ?_
        refine r_goto 33 dX1_draws_29 rfl ?_
        exact r_ireturn dX1_draws_33 rfl
theorem c_Ho_draws (P W : Int) (x1 : Int) (x3 : Int) (G : St) : MG (MHo_draws P W) [aR 100, aL x1, aI x3] G (Ho_draws x1 x3 G) := MG.of plX1 (Nat.le_of_ble_eq_true rfl) (s_Ho_draws P W x1 x3 G)
theorem s_Bt_get (P W : Int) (o : Int) (hB : isB o) (x1 : Int) (G : St) : SS (MBt_get P W) some 0 [(0, aR o), (1, aI x1)] [] G (Bt_get o x1 G) := by
  refine r_aload_n 1 0 dX7_get_0 rfl rfl rfl ?_
  refine r_get 4 (aR (o + 1)) dX7_get_1 fkX7_7 (fun h => isB_c P W hB h) (isB_n hB) rfl rfl ?_
  refine r_iload_n 5 1 dX7_get_4 rfl rfl rfl ?_
  refine r_bipush 7 64 dX7_get_5 rfl rfl ?_
  refine r_idiv 8 dX7_get_7 rfl ?_
  refine r_lald 9 dX7_get_8 (fun h _ _ => isB_w P W hB h) (fun _ _ => isB_wn hB) rfl ?_
  refine r_iload_n 10 1 dX7_get_9 rfl rfl rfl ?_
  refine r_bipush 12 64 dX7_get_10 rfl rfl ?_
  refine r_irem 13 dX7_get_12 rfl ?_
  refine r_lushr 14 dX7_get_13 rfl ?_
  refine r_l2iw 15 dX7_get_14 rfl ?_
  refine r_iconst 16 1 dX7_get_15 rfl rfl ?_
  refine r_iand 17 dX7_get_16 rfl ?_
  exact r_ireturn dX7_get_17 rfl
theorem c_Bt_get (P W : Int) (o : Int) (hB : isB o) (x1 : Int) (G : St) : MG (MBt_get P W) [aR o, aI x1] G (Bt_get o x1 G) := MG.of plX7 (Nat.le_of_ble_eq_true rfl) (s_Bt_get P W o hB x1 G)
theorem s_Dr_draw (P W : Int) (G : St) : SS (MDr_draw P W) some 0 [(0, aR 240)] [] G (Dr_draw G) := by
  refine r_aload_n 1 0 dX6_draw_0 rfl rfl rfl ?_
  refine r_get 4 (aI (G 240 2)) dX6_draw_1 fkX6_24 (fun _ => dsC_240 P W _) nn240 rfl rfl ?_
  refine r_if_le 45 7 dX6_draw_4 rfl rfl ?_ ?_
  · refine r_aload_n 46 0 dX6_draw_45 rfl rfl rfl ?_
    refine r_aload_n 47 0 dX6_draw_46 rfl rfl rfl ?_
    refine r_get 50 (aI (G 240 3)) dX6_draw_47 fkX6_20 (fun _ => dsC_240 P W _) nn240 rfl rfl ?_
    refine r_ldc 52 1103515245 dX6_draw_50 q1699 (by decide) rfl rfl ?_
    refine r_imulw 53 dX6_draw_52 rfl ?_
    refine r_sipush 56 12345 dX6_draw_53 rfl rfl ?_
    refine r_iaddw 57 dX6_draw_56 rfl ?_
    refine r_putI 60 dX6_draw_57 fkX6_20 (fun _ => dsC_240 P W _) nn240 rfl rfl ?_
    refine ss_tk (fun G1 => ?_)
    refine r_aload_n 61 0 dX6_draw_60 rfl rfl rfl ?_
    refine r_get 64 (aI (G1 240 3)) dX6_draw_61 fkX6_20 (fun _ => dsC_240 P W _) nn240 rfl rfl ?_
    refine r_bipush 66 16 dX6_draw_64 rfl rfl ?_
    refine r_iushr 67 dX6_draw_66 rfl ?_
    refine r_iconst 68 1 dX6_draw_67 rfl rfl ?_
    refine r_iand 69 dX6_draw_68 rfl ?_
    exact r_ireturn dX6_draw_69 rfl
  · refine r_aload_n 8 0 dX6_draw_7 rfl rfl rfl ?_
    refine r_get 11 (aR 241) dX6_draw_8 fkX6_14 (fun _ => dsC_240 P W _) nn240 rfl rfl ?_
    refine r_aload_n 12 0 dX6_draw_11 rfl rfl rfl ?_
    refine r_get 15 (aI (G 240 1)) dX6_draw_12 fkX6_27 (fun _ => dsC_240 P W _) nn240 rfl rfl ?_
    refine r_callvI 18 (Mc := MBt_get P W) (o := 241) (as := [aI (G 240 1)]) (st := []) dX6_draw_15 rfl (c_Bt_get P W 241 isB_241 (G 240 1) G) lkX6_34 (cmBt_get P W) rfl rfl rfl (fun h => isB_c P W isB_241 h) (isB_n isB_241) rfl (Nat.le_of_ble_eq_true rfl) (Nat.le_of_ble_eq_true rfl) (fun _ => rfl) rfl (fun z2 G3 => ?_)
    refine r_istore_n 19 [(1, aI z2), (0, aR 240)] dX6_draw_18 rfl rfl rfl rfl ?_
    refine r_aload_n 20 1 dX6_draw_19 rfl rfl rfl ?_
    refine r_aload_n 21 1 dX6_draw_20 rfl rfl rfl ?_
    refine r_get 24 (aI (G3 240 1)) dX6_draw_21 fkX6_27 (fun _ => dsC_240 P W _) nn240 rfl rfl ?_
    refine r_iconst 25 1 dX6_draw_24 rfl rfl ?_
    refine r_iaddw 26 dX6_draw_25 rfl ?_
    refine r_sipush 29 2000 dX6_draw_26 rfl rfl ?_
    refine r_irem 30 dX6_draw_29 rfl ?_
    refine r_putI 33 dX6_draw_30 fkX6_27 (fun _ => dsC_240 P W _) nn240 rfl rfl ?_
    refine ss_tk (fun G4 => ?_)
    refine r_aload_n 34 1 dX6_draw_33 rfl rfl rfl ?_
    refine r_dup 35 dX6_draw_34 rfl rfl ?_
    refine r_get 38 (aI (G4 240 2)) dX6_draw_35 fkX6_24 (fun _ => dsC_240 P W _) nn240 rfl rfl ?_
    refine r_iconst 39 1 dX6_draw_38 rfl rfl ?_
    refine r_isubw 40 dX6_draw_39 rfl ?_
    refine r_putI 43 dX6_draw_40 fkX6_24 (fun _ => dsC_240 P W _) nn240 rfl rfl ?_
    refine ss_tk (fun G5 => ?_)
    refine r_iload_n 44 0 dX6_draw_43 rfl rfl rfl ?_
    exact r_ireturn dX6_draw_44 rfl
theorem c_Dr_draw (P W : Int) (G : St) : MG (MDr_draw P W) [aR 240] G (Dr_draw G) := MG.of plX6 (Nat.le_of_ble_eq_true rfl) (s_Dr_draw P W G)
