set_option maxRecDepth 100000
theorem s_Tw_build_b95 (P W : Int) (X56 : Int × St → Option (Int × St)) (hX56 : ∀ s, So (MTw_build P W) 56 [(0, aR 100), (1, aI (s.1))] [] s.2 (X56 s)) (s0 : Int) (G : St) : SS (MTw_build P W) (lk X56 some) 95 [(0, aR 100)] [aI s0] G (Tw_build_b95 P W s0 G) := by
  refine r_istore_n 96 [(1, aI s0), (0, aR 100)] dX15_build_95 rfl rfl rfl rfl ?_
  refine r_goto 56 dX15_build_96 rfl ?_
  refine r_to [1, 0] [(0, aR 100), (1, aI s0)] rfl ?_
  exact SS.back (hX56 (s0, G))
theorem s_Tw_build_s56 (P W : Int) (X56 : Int × St → Option (Int × St)) (hX56 : ∀ s, So (MTw_build P W) 56 [(0, aR 100), (1, aI (s.1))] [] s.2 (X56 s)) (x1 : Int) (G : St) : SS (MTw_build P W) (lk X56 some) 56 [(0, aR 100), (1, aI x1)] [] G (Tw_build_s56 P W x1 G) := by
  refine r_iload_n 57 1 dX15_build_56 rfl rfl rfl ?_
  refine r_aload_n 58 0 dX15_build_57 rfl rfl rfl ?_
  refine r_get 61 (aI (G 100 13)) dX15_build_58 fkX15_411 (fun _ => dsT_100 P W _) nn100 rfl rfl ?_
  refine r_icmp_ge 99 64 dX15_build_61 rfl rfl ?_ ?_
  · refine SS.ex ?_
    exact r_return dX15_build_99 rfl
  · refine r_aload_n 65 0 dX15_build_64 rfl rfl rfl ?_
    refine r_get 68 (aI (G 100 7)) dX15_build_65 fkX15_323 (fun _ => dsT_100 P W _) nn100 rfl rfl ?_
    refine r_if_ne 99 71 dX15_build_68 rfl rfl ?_ ?_
    · refine SS.ex ?_
      exact r_return dX15_build_99 rfl
    · refine r_aload_n 72 0 dX15_build_71 rfl rfl rfl ?_
      refine r_get 75 (aR 115) dX15_build_72 fkX15_22 (fun _ => dsT_100 P W _) nn100 rfl rfl ?_
      refine r_iload_n 76 1 dX15_build_75 rfl rfl rfl ?_
      refine r_iald 77 dX15_build_76 (fun _ _ _ => dsT_115 P W _) (fun _ _ => nn115) rfl ?_
      refine r_bipush 79 20 dX15_build_77 rfl rfl ?_
      refine r_icmp_ge 90 82 dX15_build_79 rfl rfl ?_ ?_
      · refine r_aload_n 91 0 dX15_build_90 rfl rfl rfl ?_
        refine r_iload_n 92 1 dX15_build_91 rfl rfl rfl ?_
        refine r_callvI 95 (Mc := MTw_statement P W) (o := 100) (as := [aI x1]) (st := []) dX15_build_92 rfl (c_Tw_statement P W x1 G) lkX15_687 (cmTw_statement P W) rfl rfl rfl (fun _ => dsT_100 P W _) nn100 rfl (Nat.le_of_ble_eq_true rfl) (Nat.le_of_ble_eq_true rfl) (fun _ => rfl) rfl (fun z13 G14 => ?_)
        refine r_to [0] [(0, aR 100)] rfl ?_
        exact s_Tw_build_b95 P W X56 hX56 z13 G14
      · refine r_aload_n 83 0 dX15_build_82 rfl rfl rfl ?_
        refine r_iload_n 84 1 dX15_build_83 rfl rfl rfl ?_
        refine r_callvI 87 (Mc := MTw_operand P W) (o := 100) (as := [aI x1]) (st := []) dX15_build_84 rfl (c_Tw_operand P W x1 G) lkX15_684 (cmTw_operand P W) rfl rfl rfl (fun _ => dsT_100 P W _) nn100 rfl (Nat.le_of_ble_eq_true rfl) (Nat.le_of_ble_eq_true rfl) (fun _ => rfl) rfl (fun z15 G16 => ?_)
        refine r_goto 95 dX15_build_87 rfl ?_
        refine r_to [0] [(0, aR 100)] rfl ?_
        exact s_Tw_build_b95 P W X56 hX56 z15 G16
theorem sl_Tw_build_56 (P W : Int) (x1 : Int) (G : St) : SS (MTw_build P W) some 56 [(0, aR 100), (1, aI x1)] [] G (Tw_build_l56 P W x1 G) := by
  exact SS.loop (σ := Int × St) (fun s => [(0, aR 100), (1, aI (s.1))]) (fun s => s.2) (fun s => Tw_build_s56 P W s.1 s.2) (fun X56 hX56 s => s_Tw_build_s56 P W   X56 hX56 s.1 s.2) (x1, G)
theorem s_Tw_build (P W : Int) (G : St) : SS (MTw_build P W) some 0 [(0, aR 100)] [] G (Tw_build P W G) := by
  refine r_aload_n 1 0 dX15_build_0 rfl rfl rfl ?_
  refine r_callvV 4 (Mc := MTw_inputsOfAll P W) (o := 100) (as := []) (st := []) dX15_build_1 rfl (c_Tw_inputsOfAll P W G) lkX15_669 (cmTw_inputsOfAll P W) rfl rfl rfl (fun _ => dsT_100 P W _) nn100 rfl (Nat.le_of_ble_eq_true rfl) (Nat.le_of_ble_eq_true rfl) (fun _ => rfl) rfl (fun z1 G2 => ?_)
  refine r_aload_n 5 0 dX15_build_4 rfl rfl rfl ?_
  refine r_iconst 6 0 dX15_build_5 rfl rfl ?_
  refine r_putI 9 dX15_build_6 fkX15_624 (fun _ => dsT_100 P W _) nn100 rfl rfl ?_
  refine ss_tk (fun G3 => ?_)
  refine r_aload_n 10 0 dX15_build_9 rfl rfl rfl ?_
  refine r_iconst 11 0 dX15_build_10 rfl rfl ?_
  refine r_putI 14 dX15_build_11 fkX15_630 (fun _ => dsT_100 P W _) nn100 rfl rfl ?_
  refine ss_tk (fun G4 => ?_)
  refine r_aload_n 15 0 dX15_build_14 rfl rfl rfl ?_
  refine r_iconst 16 0 dX15_build_15 rfl rfl ?_
  refine r_putI 19 dX15_build_16 fkX15_633 (fun _ => dsT_100 P W _) nn100 rfl rfl ?_
  refine ss_tk (fun G5 => ?_)
  refine r_aload_n 20 0 dX15_build_19 rfl rfl rfl ?_
  refine r_iconst 21 0 dX15_build_20 rfl rfl ?_
  refine r_putI 24 dX15_build_21 fkX15_672 (fun _ => dsT_100 P W _) nn100 rfl rfl ?_
  refine ss_tk (fun G6 => ?_)
  refine r_aload_n 25 0 dX15_build_24 rfl rfl rfl ?_
  refine r_iconst 26 0 dX15_build_25 rfl rfl ?_
  refine r_putI 29 dX15_build_26 fkX15_659 (fun _ => dsT_100 P W _) nn100 rfl rfl ?_
  refine ss_tk (fun G7 => ?_)
  refine r_aload_n 30 0 dX15_build_29 rfl rfl rfl ?_
  refine r_iconst 31 0 dX15_build_30 rfl rfl ?_
  refine r_putI 34 dX15_build_31 fkX15_621 (fun _ => dsT_100 P W _) nn100 rfl rfl ?_
  refine ss_tk (fun G8 => ?_)
  refine r_aload_n 35 0 dX15_build_34 rfl rfl rfl ?_
  refine r_iconst 36 0 dX15_build_35 rfl rfl ?_
  refine r_putI 39 dX15_build_36 fkX15_675 (fun _ => dsT_100 P W _) nn100 rfl rfl ?_
  refine ss_tk (fun G9 => ?_)
  refine r_aload_n 40 0 dX15_build_39 rfl rfl rfl ?_
  refine r_iconst 41 0 dX15_build_40 rfl rfl ?_
  refine r_putI 44 dX15_build_41 fkX15_678 (fun _ => dsT_100 P W _) nn100 rfl rfl ?_
  refine ss_tk (fun G10 => ?_)
  refine r_aload_n 45 0 dX15_build_44 rfl rfl rfl ?_
  refine r_iconst 46 0 dX15_build_45 rfl rfl ?_
  refine r_putI 49 dX15_build_46 fkX15_681 (fun _ => dsT_100 P W _) nn100 rfl rfl ?_
  refine ss_tk (fun G11 => ?_)
  refine r_aload_n 50 0 dX15_build_49 rfl rfl rfl ?_
  refine r_iconst 51 0 dX15_build_50 rfl rfl ?_
  refine r_putI 54 dX15_build_51 fkX15_649 (fun _ => dsT_100 P W _) nn100 rfl rfl ?_
  refine ss_tk (fun G12 => ?_)
  refine r_iconst 55 0 dX15_build_54 rfl rfl ?_
  refine r_istore_n 56 [(1, aI 0), (0, aR 100)] dX15_build_55 rfl rfl rfl rfl ?_
  refine r_to [1, 0] [(0, aR 100), (1, aI 0)] rfl ?_
  exact sl_Tw_build_56 P W 0 G12
theorem c_Tw_build (P W : Int) (G : St) : MG (MTw_build P W) [aR 100] G (Tw_build P W G) := MG.of plX15 (Nat.le_of_ble_eq_true rfl) (s_Tw_build P W G)
theorem s_Tw_forget (P W : Int) (G : St) : SS (MTw_forget P W) some 0 [(0, aR 100)] [] G (Tw_forget G) := by
  refine r_aload_n 1 0 dX15_forget_0 rfl rfl rfl ?_
  refine r_iconst 2 0 dX15_forget_1 rfl rfl ?_
  refine r_putZ 5 dX15_forget_2 fkX15_762 (fun _ => dsT_100 P W _) nn100 rfl rfl ?_
  refine ss_tk (fun G1 => ?_)
  refine r_aload_n 6 0 dX15_forget_5 rfl rfl rfl ?_
  refine r_iconst 7 0 dX15_forget_6 rfl rfl ?_
  refine r_putI 10 dX15_forget_7 fkX15_818 (fun _ => dsT_100 P W _) nn100 rfl rfl ?_
  refine ss_tk (fun G2 => ?_)
  refine r_aload_n 11 0 dX15_forget_10 rfl rfl rfl ?_
  refine r_iconst 12 0 dX15_forget_11 rfl rfl ?_
  refine r_putI 15 dX15_forget_12 fkX15_830 (fun _ => dsT_100 P W _) nn100 rfl rfl ?_
  refine ss_tk (fun G3 => ?_)
  refine r_aload_n 16 0 dX15_forget_15 rfl rfl rfl ?_
  refine r_iconst 17 0 dX15_forget_16 rfl rfl ?_
  refine r_putZ 20 dX15_forget_17 fkX15_777 (fun _ => dsT_100 P W _) nn100 rfl rfl ?_
  refine ss_tk (fun G4 => ?_)
  exact r_return dX15_forget_20 rfl
theorem c_Tw_forget (P W : Int) (G : St) : MG (MTw_forget P W) [aR 100] G (Tw_forget G) := MG.of plX15 (Nat.le_of_ble_eq_true rfl) (s_Tw_forget P W G)
theorem s_Tw_levels_b59 (P W : Int) (X4 : Int × Int × St → Option (Int × St)) (hX4 : ∀ s, So (MTw_levels P W) 4 [(0, aR 100), (1, aI (s.1)), (2, aI (s.2.1))] [] s.2.2 (X4 s)) (x2 : Int) (X21 : Int × Int × St → Option (Int × St)) (hX21 : ∀ s, So (MTw_levels P W) 21 [(0, aR 100), (1, aI (s.1)), (2, aI x2), (3, aI (s.2.1))] [] s.2.2 (X21 s)) (x1 : Int) (x3 : Int) (G : St) : SS (MTw_levels P W) (lk X21 (lk X4 some)) 59 [(0, aR 100), (1, aI x1), (2, aI x2), (3, aI x3)] [] G (Tw_levels_b59 x1 x2 x3 G) := by
  refine r_iinc 62 [(3, aI (x3 + 1)), (0, aR 100), (1, aI x1), (2, aI x2)] 3 dX15_levels_59 rfl rfl rfl rfl ?_
  refine r_goto 21 dX15_levels_62 rfl ?_
  refine r_to [1, 2, 3, 0] [(0, aR 100), (1, aI x1), (2, aI x2), (3, aI (x3 + 1))] rfl ?_
  exact SS.back (hX21 (x1, x3 + 1, G))
theorem s_Tw_levels_s21 (P W : Int) (X4 : Int × Int × St → Option (Int × St)) (hX4 : ∀ s, So (MTw_levels P W) 4 [(0, aR 100), (1, aI (s.1)), (2, aI (s.2.1))] [] s.2.2 (X4 s)) (x2 : Int) (X21 : Int × Int × St → Option (Int × St)) (hX21 : ∀ s, So (MTw_levels P W) 21 [(0, aR 100), (1, aI (s.1)), (2, aI x2), (3, aI (s.2.1))] [] s.2.2 (X21 s)) (x1 : Int) (x3 : Int) (G : St) : SS (MTw_levels P W) (lk X21 (lk X4 some)) 21 [(0, aR 100), (1, aI x1), (2, aI x2), (3, aI x3)] [] G (Tw_levels_s21 x2 x1 x3 G) := by
  refine r_iload_n 22 3 dX15_levels_21 rfl rfl rfl ?_
  refine r_aload_n 23 0 dX15_levels_22 rfl rfl rfl ?_
  refine r_get 26 (aI (G 100 66)) dX15_levels_23 fkX15_624 (fun _ => dsT_100 P W _) nn100 rfl rfl ?_
  refine r_icmp_ge 65 29 dX15_levels_26 rfl rfl ?_ ?_
  · refine SS.ex ?_
    refine r_iinc 68 [(2, aI (x2 + 1)), (0, aR 100), (1, aI x1), (3, aI x3)] 2 dX15_levels_65 rfl rfl rfl rfl ?_
    refine r_goto 4 dX15_levels_68 rfl ?_
    refine r_to [1, 2, 0] [(0, aR 100), (1, aI x1), (2, aI (x2 + 1))] rfl ?_
    exact SS.back (hX4 (x1, x2 + 1, G))
  · refine r_aload_n 30 0 dX15_levels_29 rfl rfl rfl ?_
    refine r_get 33 (aR 172) dX15_levels_30 fkX15_124 (fun _ => dsT_100 P W _) nn100 rfl rfl ?_
    refine r_iload_n 34 3 dX15_levels_33 rfl rfl rfl ?_
    refine r_iald 35 dX15_levels_34 (fun _ _ _ => dsT_172 P W _) (fun _ _ => nn172) rfl ?_
    refine r_iconst 36 1 dX15_levels_35 rfl rfl ?_
    refine r_icmp_ne 59 39 dX15_levels_36 rfl rfl ?_ ?_
    · exact s_Tw_levels_b59 P W X4 hX4 x2 X21 hX21 x1 x3 G
    · refine r_aload_n 40 0 dX15_levels_39 rfl rfl rfl ?_
      refine r_get 43 (aR 173) dX15_levels_40 fkX15_127 (fun _ => dsT_100 P W _) nn100 rfl rfl ?_
      refine r_iload_n 44 3 dX15_levels_43 rfl rfl rfl ?_
      refine r_iald 45 dX15_levels_44 (fun _ _ _ => dsT_173 P W _) (fun _ _ => nn173) rfl ?_
      refine r_iload_n 46 2 dX15_levels_45 rfl rfl rfl ?_
      refine r_icmp_ne 59 49 dX15_levels_46 rfl rfl ?_ ?_
      · exact s_Tw_levels_b59 P W X4 hX4 x2 X21 hX21 x1 x3 G
      · refine r_aload_n 50 0 dX15_levels_49 rfl rfl rfl ?_
        refine r_get 53 (aR 231) dX15_levels_50 fkX15_262 (fun _ => dsT_100 P W _) nn100 rfl rfl ?_
        refine r_iload_n 54 1 dX15_levels_53 rfl rfl rfl ?_
        refine r_iload_n 55 3 dX15_levels_54 rfl rfl rfl ?_
        refine r_iast 56 dX15_levels_55 (fun _ _ _ => dsT_231 P W _) (fun _ _ => nn231) rfl ?_
        refine ss_tk (fun G3 => ?_)
        refine r_iinc 59 [(1, aI (x1 + 1)), (0, aR 100), (2, aI x2), (3, aI x3)] 1 dX15_levels_56 rfl rfl rfl rfl ?_
        refine r_to [1, 0, 2, 3] [(0, aR 100), (1, aI (x1 + 1)), (2, aI x2), (3, aI x3)] rfl ?_
        exact s_Tw_levels_b59 P W X4 hX4 x2 X21 hX21 (x1 + 1) x3 G3
theorem sl_Tw_levels_21 (P W : Int) (X4 : Int × Int × St → Option (Int × St)) (hX4 : ∀ s, So (MTw_levels P W) 4 [(0, aR 100), (1, aI (s.1)), (2, aI (s.2.1))] [] s.2.2 (X4 s)) (x2 : Int) (x1 : Int) (x3 : Int) (G : St) : SS (MTw_levels P W) (lk X4 some) 21 [(0, aR 100), (1, aI x1), (2, aI x2), (3, aI x3)] [] G (Tw_levels_l21 x2 x1 x3 G) := by
  exact SS.loop (σ := Int × Int × St) (fun s => [(0, aR 100), (1, aI (s.1)), (2, aI x2), (3, aI (s.2.1))]) (fun s => s.2.2) (fun s => Tw_levels_s21 x2 s.1 s.2.1 s.2.2) (fun X21 hX21 s => s_Tw_levels_s21 P W X4 hX4 x2  X21 hX21 s.1 s.2.1 s.2.2) (x1, x3, G)
theorem s_Tw_levels_s4 (P W : Int) (X4 : Int × Int × St → Option (Int × St)) (hX4 : ∀ s, So (MTw_levels P W) 4 [(0, aR 100), (1, aI (s.1)), (2, aI (s.2.1))] [] s.2.2 (X4 s)) (x1 : Int) (x2 : Int) (G : St) : SS (MTw_levels P W) (lk X4 some) 4 [(0, aR 100), (1, aI x1), (2, aI x2)] [] G (Tw_levels_s4 x1 x2 G) := by
  refine r_iload_n 5 2 dX15_levels_4 rfl rfl rfl ?_
  refine r_aload_n 6 0 dX15_levels_5 rfl rfl rfl ?_
  refine r_get 9 (aI (G 100 68)) dX15_levels_6 fkX15_633 (fun _ => dsT_100 P W _) nn100 rfl rfl ?_
  refine r_icmp_gt 71 12 dX15_levels_9 rfl rfl ?_ ?_
  · refine SS.ex ?_
    refine r_aload_n 72 0 dX15_levels_71 rfl rfl rfl ?_
    refine r_get 75 (aR 230) dX15_levels_72 fkX15_259 (fun _ => dsT_100 P W _) nn100 rfl rfl ?_
    refine r_aload_n 76 0 dX15_levels_75 rfl rfl rfl ?_
    refine r_get 79 (aI (G 100 68)) dX15_levels_76 fkX15_633 (fun _ => dsT_100 P W _) nn100 rfl rfl ?_
    refine r_iconst 80 1 dX15_levels_79 rfl rfl ?_
    refine r_iadd 81 dX15_levels_80 rfl ?_
    refine r_iload_n 82 1 dX15_levels_81 rfl rfl rfl ?_
    refine r_iast 83 dX15_levels_82 (fun _ _ _ => dsT_230 P W _) (fun _ _ => nn230) rfl ?_
    refine ss_tk (fun G1 => ?_)
    exact r_return dX15_levels_83 rfl
  · refine r_aload_n 13 0 dX15_levels_12 rfl rfl rfl ?_
    refine r_get 16 (aR 230) dX15_levels_13 fkX15_259 (fun _ => dsT_100 P W _) nn100 rfl rfl ?_
    refine r_iload_n 17 2 dX15_levels_16 rfl rfl rfl ?_
    refine r_iload_n 18 1 dX15_levels_17 rfl rfl rfl ?_
    refine r_iast 19 dX15_levels_18 (fun _ _ _ => dsT_230 P W _) (fun _ _ => nn230) rfl ?_
    refine ss_tk (fun G2 => ?_)
    refine r_iconst 20 0 dX15_levels_19 rfl rfl ?_
    refine r_istore_n 21 [(3, aI 0), (0, aR 100), (1, aI x1), (2, aI x2)] dX15_levels_20 rfl rfl rfl rfl ?_
    refine r_to [1, 2, 3, 0] [(0, aR 100), (1, aI x1), (2, aI x2), (3, aI 0)] rfl ?_
    exact sl_Tw_levels_21 P W X4 hX4 x2 x1 0 G2
theorem sl_Tw_levels_4 (P W : Int) (x1 : Int) (x2 : Int) (G : St) : SS (MTw_levels P W) some 4 [(0, aR 100), (1, aI x1), (2, aI x2)] [] G (Tw_levels_l4 x1 x2 G) := by
  exact SS.loop (σ := Int × Int × St) (fun s => [(0, aR 100), (1, aI (s.1)), (2, aI (s.2.1))]) (fun s => s.2.2) (fun s => Tw_levels_s4 s.1 s.2.1 s.2.2) (fun X4 hX4 s => s_Tw_levels_s4 P W   X4 hX4 s.1 s.2.1 s.2.2) (x1, x2, G)
theorem s_Tw_levels (P W : Int) (G : St) : SS (MTw_levels P W) some 0 [(0, aR 100)] [] G (Tw_levels G) := by
  refine r_iconst 1 0 dX15_levels_0 rfl rfl ?_
  refine r_istore_n 2 [(1, aI 0), (0, aR 100)] dX15_levels_1 rfl rfl rfl rfl ?_
  refine r_iconst 3 1 dX15_levels_2 rfl rfl ?_
  refine r_istore_n 4 [(2, aI 1), (1, aI 0), (0, aR 100)] dX15_levels_3 rfl rfl rfl rfl ?_
  refine r_to [2, 1, 0] [(0, aR 100), (1, aI 0), (2, aI 1)] rfl ?_
  exact sl_Tw_levels_4 P W 0 1 G
theorem c_Tw_levels (P W : Int) (G : St) : MG (MTw_levels P W) [aR 100] G (Tw_levels G) := MG.of plX15 (Nat.le_of_ble_eq_true rfl) (s_Tw_levels P W G)
theorem s_Tw_deeper_b15 (P W : Int) (G : St) : SS (MTw_deeper P W) some 15 [(0, aR 100)] [] G (Tw_deeper_b15 G) := by
  refine r_aload_n 16 0 dX15_deeper_15 rfl rfl rfl ?_
  refine r_dup 17 dX15_deeper_16 rfl rfl ?_
  refine r_get 20 (aI (G 100 19)) dX15_deeper_17 fkX15_414 (fun _ => dsT_100 P W _) nn100 rfl rfl ?_
  refine r_iconst 21 1 dX15_deeper_20 rfl rfl ?_
  refine r_iadd 22 dX15_deeper_21 rfl ?_
  refine r_putI 25 dX15_deeper_22 fkX15_414 (fun _ => dsT_100 P W _) nn100 rfl rfl ?_
  refine ss_tk (fun G1 => ?_)
  exact r_return dX15_deeper_25 rfl
theorem s_Tw_deeper (P W : Int) (x1 : Int) (G : St) : SS (MTw_deeper P W) some 0 [(0, aR 100), (1, aI x1)] [] G (Tw_deeper x1 G) := by
  refine r_aload_n 1 0 dX15_deeper_0 rfl rfl rfl ?_
  refine r_get 4 (aI (G 100 19)) dX15_deeper_1 fkX15_414 (fun _ => dsT_100 P W _) nn100 rfl rfl ?_
  refine r_bipush 6 30 dX15_deeper_4 rfl rfl ?_
  refine r_icmp_ne 15 9 dX15_deeper_6 rfl rfl ?_ ?_
  · refine r_to [0] [(0, aR 100)] rfl ?_
    exact s_Tw_deeper_b15 P W G
  · refine r_aload_n 10 0 dX15_deeper_9 rfl rfl rfl ?_
    refine r_iconst 11 3 dX15_deeper_10 rfl rfl ?_
    refine r_iload_n 12 1 dX15_deeper_11 rfl rfl rfl ?_
    refine r_callvV 15 (Mc := MTw_fail P W) (o := 100) (as := [aI 3, aI x1]) (st := []) dX15_deeper_12 rfl (c_Tw_fail P W 3 x1 G) lkX15_390 (cmTw_fail P W) rfl rfl rfl (fun _ => dsT_100 P W _) nn100 rfl (Nat.le_of_ble_eq_true rfl) (Nat.le_of_ble_eq_true rfl) (fun _ => rfl) rfl (fun z2 G3 => ?_)
    refine r_to [0] [(0, aR 100)] rfl ?_
    exact s_Tw_deeper_b15 P W G3
theorem c_Tw_deeper (P W : Int) (x1 : Int) (G : St) : MG (MTw_deeper P W) [aR 100, aI x1] G (Tw_deeper x1 G) := MG.of plX15 (Nat.le_of_ble_eq_true rfl) (s_Tw_deeper P W x1 G)
theorem s_Tw_isFresh (P W : Int) (G : St) : SS (MTw_isFresh P W) some 0 [(0, aR 100)] [] G (Tw_isFresh G) := by
  refine r_aload_n 1 0 dX15_isFresh_0 rfl rfl rfl ?_
  refine r_get 4 (aR 115) dX15_isFresh_1 fkX15_22 (fun _ => dsT_100 P W _) nn100 rfl rfl ?_
  refine r_aload_n 5 0 dX15_isFresh_4 rfl rfl rfl ?_
  refine r_get 8 (aI (G 100 13)) dX15_isFresh_5 fkX15_411 (fun _ => dsT_100 P W _) nn100 rfl rfl ?_
  refine r_iconst 9 1 dX15_isFresh_8 rfl rfl ?_
  refine r_isub 10 dX15_isFresh_9 rfl ?_
  refine r_iald 11 dX15_isFresh_10 (fun _ _ _ => dsT_115 P W _) (fun _ _ => nn115) rfl ?_
  refine r_bipush 13 8 dX15_isFresh_11 rfl rfl ?_
  refine r_icmp_ne 70 16 dX15_isFresh_13 rfl rfl ?_ ?_
  · refine r_iconst 71 0 dX15_isFresh_70 rfl rfl ?_
    exact r_zreturn dX15_isFresh_71 rfl
  · refine r_aload_n 17 0 dX15_isFresh_16 rfl rfl rfl ?_
    refine r_get 20 (aR 116) dX15_isFresh_17 fkX15_25 (fun _ => dsT_100 P W _) nn100 rfl rfl ?_
    refine r_aload_n 21 0 dX15_isFresh_20 rfl rfl rfl ?_
    refine r_get 24 (aI (G 100 13)) dX15_isFresh_21 fkX15_411 (fun _ => dsT_100 P W _) nn100 rfl rfl ?_
    refine r_iconst 25 1 dX15_isFresh_24 rfl rfl ?_
    refine r_isub 26 dX15_isFresh_25 rfl ?_
    refine r_iald 27 dX15_isFresh_26 (fun _ _ _ => dsT_116 P W _) (fun _ _ => nn116) rfl ?_
    refine r_aload_n 28 0 dX15_isFresh_27 rfl rfl rfl ?_
    refine r_get 31 (aR 116) dX15_isFresh_28 fkX15_25 (fun _ => dsT_100 P W _) nn100 rfl rfl ?_
    refine r_aload_n 32 0 dX15_isFresh_31 rfl rfl rfl ?_
    refine r_get 35 (aR 123) dX15_isFresh_32 fkX15_41 (fun _ => dsT_100 P W _) nn100 rfl rfl ?_
    refine r_aload_n 36 0 dX15_isFresh_35 rfl rfl rfl ?_
    refine r_get 39 (aI (G 100 20)) dX15_isFresh_36 fkX15_417 (fun _ => dsT_100 P W _) nn100 rfl rfl ?_
    refine r_iconst 40 1 dX15_isFresh_39 rfl rfl ?_
    refine r_isub 41 dX15_isFresh_40 rfl ?_
    refine r_iald 42 dX15_isFresh_41 (fun _ _ _ => dsT_123 P W _) (fun _ _ => nn123) rfl ?_
    refine r_iald 43 dX15_isFresh_42 (fun _ _ _ => dsT_116 P W _) (fun _ _ => nn116) rfl ?_
    refine r_icmp_ne 70 46 dX15_isFresh_43 rfl rfl ?_ ?_
    · refine r_iconst 71 0 dX15_isFresh_70 rfl rfl ?_
      exact r_zreturn dX15_isFresh_71 rfl
    · refine r_aload_n 47 0 dX15_isFresh_46 rfl rfl rfl ?_
      refine r_get 50 (aI (G 100 13)) dX15_isFresh_47 fkX15_411 (fun _ => dsT_100 P W _) nn100 rfl rfl ?_
      refine r_iconst 51 1 dX15_isFresh_50 rfl rfl ?_
      refine r_isub 52 dX15_isFresh_51 rfl ?_
      refine r_aload_n 53 0 dX15_isFresh_52 rfl rfl rfl ?_
      refine r_get 56 (aR 123) dX15_isFresh_53 fkX15_41 (fun _ => dsT_100 P W _) nn100 rfl rfl ?_
      refine r_aload_n 57 0 dX15_isFresh_56 rfl rfl rfl ?_
      refine r_get 60 (aI (G 100 20)) dX15_isFresh_57 fkX15_417 (fun _ => dsT_100 P W _) nn100 rfl rfl ?_
      refine r_iconst 61 1 dX15_isFresh_60 rfl rfl ?_
      refine r_isub 62 dX15_isFresh_61 rfl ?_
      refine r_iald 63 dX15_isFresh_62 (fun _ _ _ => dsT_123 P W _) (fun _ _ => nn123) rfl ?_
      refine SS.phi (fun VV_ => ckB VV_ 2 (some (VV_, G))) ?_
      refine r_icmp_ne 70 66 dX15_isFresh_63 rfl rfl ?_ ?_
      · refine r_iconst 71 0 dX15_isFresh_70 rfl rfl ?_
        exact r_zreturn dX15_isFresh_71 rfl
      · refine r_iconst 67 1 dX15_isFresh_66 rfl rfl ?_
        refine r_goto 71 dX15_isFresh_67 rfl ?_
        exact r_zreturn dX15_isFresh_71 rfl
theorem c_Tw_isFresh (P W : Int) (G : St) : MG (MTw_isFresh P W) [aR 100] G (Tw_isFresh G) := MG.of plX15 (Nat.le_of_ble_eq_true rfl) (s_Tw_isFresh P W G)
theorem s_Tw_look0 (P W : Int) (x1 : Int) (G : St) : SS (MTw_look0 P W) some 0 [(0, aR 100), (1, aI x1)] [] G (Tw_look0 x1 G) := by
  refine r_aload_n 1 0 dX15_look0_0 rfl rfl rfl ?_
  refine r_get 4 (aI (G 100 6)) dX15_look0_1 fkX15_326 (fun _ => dsT_100 P W _) nn100 rfl rfl ?_
  refine r_iload_n 5 1 dX15_look0_4 rfl rfl rfl ?_
  refine r_iadd 6 dX15_look0_5 rfl ?_
  refine r_aload_n 7 0 dX15_look0_6 rfl rfl rfl ?_
  refine r_get 10 (aI (G 100 5)) dX15_look0_7 fkX15_320 (fun _ => dsT_100 P W _) nn100 rfl rfl ?_
  refine r_icmp_ge 27 13 dX15_look0_10 rfl rfl ?_ ?_
  · refine r_iconst 28 (-1) dX15_look0_27 rfl rfl ?_
    exact r_ireturn dX15_look0_28 rfl
  · refine r_aload_n 14 0 dX15_look0_13 rfl rfl rfl ?_
    refine r_get 17 (aR 105) dX15_look0_14 fkX15_13 (fun _ => dsT_100 P W _) nn100 rfl rfl ?_
    refine r_aload_n 18 0 dX15_look0_17 rfl rfl rfl ?_
    refine r_get 21 (aI (G 100 6)) dX15_look0_18 fkX15_326 (fun _ => dsT_100 P W _) nn100 rfl rfl ?_
    refine r_iload_n 22 1 dX15_look0_21 rfl rfl rfl ?_
    refine r_iadd 23 dX15_look0_22 rfl ?_
    refine r_iald 24 dX15_look0_23 (fun _ _ _ => dsT_105 P W _) (fun _ _ => nn105) rfl ?_
    refine r_goto 28 dX15_look0_24 rfl ?_
    exact r_ireturn dX15_look0_28 rfl
theorem c_Tw_look0 (P W : Int) (x1 : Int) (G : St) : MG (MTw_look0 P W) [aR 100, aI x1] G (Tw_look0 x1 G) := MG.of plX15 (Nat.le_of_ble_eq_true rfl) (s_Tw_look0 P W x1 G)
theorem s_Tw_isPair_b60 (P W : Int) (x1 : Int) (x2 : Int) (G : St) : SS (MTw_isPair P W) some 60 [(1, aI x1), (2, aI x2)] [] G (Tw_isPair_b60 x1 x2 G) := by
  refine r_iload_n 61 1 dX15_isPair_60 rfl rfl rfl ?_
  refine r_bipush 63 61 dX15_isPair_61 rfl rfl ?_
  refine SS.phi (fun VV_ => ckB VV_ 2 (some (VV_, G))) ?_
  refine r_icmp_eq 90 66 dX15_isPair_63 rfl rfl ?_ ?_
  · refine r_iconst 91 1 dX15_isPair_90 rfl rfl ?_
    refine r_goto 95 dX15_isPair_91 rfl ?_
    exact r_zreturn dX15_isPair_95 rfl
  · refine r_iload_n 67 0 dX15_isPair_66 rfl rfl rfl ?_
    refine r_bipush 69 60 dX15_isPair_67 rfl rfl ?_
    refine SS.phi (fun VV_ => ckB VV_ 2 (some (VV_, G))) ?_
    refine r_icmp_ne 78 72 dX15_isPair_69 rfl rfl ?_ ?_
    · refine r_iload_n 79 0 dX15_isPair_78 rfl rfl rfl ?_
      refine r_bipush 81 62 dX15_isPair_79 rfl rfl ?_
      refine SS.phi (fun VV_ => ckB VV_ 2 (some (VV_, G))) ?_
      refine r_icmp_ne 94 84 dX15_isPair_81 rfl rfl ?_ ?_
      · refine r_iconst 95 0 dX15_isPair_94 rfl rfl ?_
        exact r_zreturn dX15_isPair_95 rfl
      · refine r_iload_n 85 1 dX15_isPair_84 rfl rfl rfl ?_
        refine r_bipush 87 62 dX15_isPair_85 rfl rfl ?_
        refine SS.phi (fun VV_ => ckB VV_ 2 (some (VV_, G))) ?_
        refine r_icmp_ne 94 90 dX15_isPair_87 rfl rfl ?_ ?_
        · refine r_iconst 95 0 dX15_isPair_94 rfl rfl ?_
          exact r_zreturn dX15_isPair_95 rfl
        · refine r_iconst 91 1 dX15_isPair_90 rfl rfl ?_
          refine r_goto 95 dX15_isPair_91 rfl ?_
          exact r_zreturn dX15_isPair_95 rfl
    · refine r_iload_n 73 1 dX15_isPair_72 rfl rfl rfl ?_
      refine r_bipush 75 60 dX15_isPair_73 rfl rfl ?_
      refine SS.phi (fun VV_ => ckB VV_ 2 (some (VV_, G))) ?_
      refine r_icmp_eq 90 78 dX15_isPair_75 rfl rfl ?_ ?_
      · refine r_iconst 91 1 dX15_isPair_90 rfl rfl ?_
        refine r_goto 95 dX15_isPair_91 rfl ?_
        exact r_zreturn dX15_isPair_95 rfl
      · refine r_iload_n 79 0 dX15_isPair_78 rfl rfl rfl ?_
        refine r_bipush 81 62 dX15_isPair_79 rfl rfl ?_
        refine SS.phi (fun VV_ => ckB VV_ 2 (some (VV_, G))) ?_
        refine r_icmp_ne 94 84 dX15_isPair_81 rfl rfl ?_ ?_
        · refine r_iconst 95 0 dX15_isPair_94 rfl rfl ?_
          exact r_zreturn dX15_isPair_95 rfl
        · refine r_iload_n 85 1 dX15_isPair_84 rfl rfl rfl ?_
          refine r_bipush 87 62 dX15_isPair_85 rfl rfl ?_
          refine SS.phi (fun VV_ => ckB VV_ 2 (some (VV_, G))) ?_
          refine r_icmp_ne 94 90 dX15_isPair_87 rfl rfl ?_ ?_
          · refine r_iconst 95 0 dX15_isPair_94 rfl rfl ?_
            exact r_zreturn dX15_isPair_95 rfl
          · refine r_iconst 91 1 dX15_isPair_90 rfl rfl ?_
            refine r_goto 95 dX15_isPair_91 rfl ?_
            exact r_zreturn dX15_isPair_95 rfl
theorem s_Tw_isPair_b66 (P W : Int) (x1 : Int) (x2 : Int) (G : St) : SS (MTw_isPair P W) some 66 [(1, aI x1), (2, aI x2)] [] G (Tw_isPair_b66 x1 x2 G) := by
  refine r_iload_n 67 0 dX15_isPair_66 rfl rfl rfl ?_
  refine r_bipush 69 60 dX15_isPair_67 rfl rfl ?_
  refine SS.phi (fun VV_ => ckB VV_ 2 (some (VV_, G))) ?_
  refine r_icmp_ne 78 72 dX15_isPair_69 rfl rfl ?_ ?_
  · refine r_iload_n 79 0 dX15_isPair_78 rfl rfl rfl ?_
    refine r_bipush 81 62 dX15_isPair_79 rfl rfl ?_
    refine SS.phi (fun VV_ => ckB VV_ 2 (some (VV_, G))) ?_
    refine r_icmp_ne 94 84 dX15_isPair_81 rfl rfl ?_ ?_
    · refine r_iconst 95 0 dX15_isPair_94 rfl rfl ?_
      exact r_zreturn dX15_isPair_95 rfl
    · refine r_iload_n 85 1 dX15_isPair_84 rfl rfl rfl ?_
      refine r_bipush 87 62 dX15_isPair_85 rfl rfl ?_
      refine SS.phi (fun VV_ => ckB VV_ 2 (some (VV_, G))) ?_
      refine r_icmp_ne 94 90 dX15_isPair_87 rfl rfl ?_ ?_
      · refine r_iconst 95 0 dX15_isPair_94 rfl rfl ?_
        exact r_zreturn dX15_isPair_95 rfl
      · refine r_iconst 91 1 dX15_isPair_90 rfl rfl ?_
        refine r_goto 95 dX15_isPair_91 rfl ?_
        exact r_zreturn dX15_isPair_95 rfl
  · refine r_iload_n 73 1 dX15_isPair_72 rfl rfl rfl ?_
    refine r_bipush 75 60 dX15_isPair_73 rfl rfl ?_
    refine SS.phi (fun VV_ => ckB VV_ 2 (some (VV_, G))) ?_
    refine r_icmp_eq 90 78 dX15_isPair_75 rfl rfl ?_ ?_
    · refine r_iconst 91 1 dX15_isPair_90 rfl rfl ?_
      refine r_goto 95 dX15_isPair_91 rfl ?_
      exact r_zreturn dX15_isPair_95 rfl
    · refine r_iload_n 79 0 dX15_isPair_78 rfl rfl rfl ?_
      refine r_bipush 81 62 dX15_isPair_79 rfl rfl ?_
      refine SS.phi (fun VV_ => ckB VV_ 2 (some (VV_, G))) ?_
      refine r_icmp_ne 94 84 dX15_isPair_81 rfl rfl ?_ ?_
      · refine r_iconst 95 0 dX15_isPair_94 rfl rfl ?_
        exact r_zreturn dX15_isPair_95 rfl
      · refine r_iload_n 85 1 dX15_isPair_84 rfl rfl rfl ?_
        refine r_bipush 87 62 dX15_isPair_85 rfl rfl ?_
        refine SS.phi (fun VV_ => ckB VV_ 2 (some (VV_, G))) ?_
        refine r_icmp_ne 94 90 dX15_isPair_87 rfl rfl ?_ ?_
        · refine r_iconst 95 0 dX15_isPair_94 rfl rfl ?_
          exact r_zreturn dX15_isPair_95 rfl
        · refine r_iconst 91 1 dX15_isPair_90 rfl rfl ?_
          refine r_goto 95 dX15_isPair_91 rfl ?_
          exact r_zreturn dX15_isPair_95 rfl
theorem s_Tw_isPair_b36 (P W : Int) (x1 : Int) (x2 : Int) (G : St) : SS (MTw_isPair P W) some 36 [(1, aI x1), (2, aI x2)] [] G (Tw_isPair_b36 x1 x2 G) := by
  refine r_iload_n 37 0 dX15_isPair_36 rfl rfl rfl ?_
  refine r_bipush 39 61 dX15_isPair_37 rfl rfl ?_
  refine r_icmp_eq 60 42 dX15_isPair_39 rfl rfl ?_ ?_
  · exact s_Tw_isPair_b60 P W x1 x2 G
  · refine r_iload_n 43 0 dX15_isPair_42 rfl rfl rfl ?_
    refine r_bipush 45 33 dX15_isPair_43 rfl rfl ?_
    refine r_icmp_eq 60 48 dX15_isPair_45 rfl rfl ?_ ?_
    · exact s_Tw_isPair_b60 P W x1 x2 G
    · refine r_iload_n 49 0 dX15_isPair_48 rfl rfl rfl ?_
      refine r_bipush 51 60 dX15_isPair_49 rfl rfl ?_
      refine r_icmp_eq 60 54 dX15_isPair_51 rfl rfl ?_ ?_
      · exact s_Tw_isPair_b60 P W x1 x2 G
      · refine r_iload_n 55 0 dX15_isPair_54 rfl rfl rfl ?_
        refine r_bipush 57 62 dX15_isPair_55 rfl rfl ?_
        refine r_icmp_ne 66 60 dX15_isPair_57 rfl rfl ?_ ?_
        · exact s_Tw_isPair_b66 P W x1 x2 G
        · exact s_Tw_isPair_b60 P W x1 x2 G
theorem s_Tw_isPair_b24 (P W : Int) (x1 : Int) (x2 : Int) (G : St) : SS (MTw_isPair P W) some 24 [(1, aI x1), (2, aI x2)] [] G (Tw_isPair_b24 x1 x2 G) := by
  refine r_iload_n 25 0 dX15_isPair_24 rfl rfl rfl ?_
  refine r_bipush 27 38 dX15_isPair_25 rfl rfl ?_
  refine r_icmp_ne 36 30 dX15_isPair_27 rfl rfl ?_ ?_
  · exact s_Tw_isPair_b36 P W x1 x2 G
  · refine r_iload_n 31 1 dX15_isPair_30 rfl rfl rfl ?_
    refine r_bipush 33 38 dX15_isPair_31 rfl rfl ?_
    refine r_icmp_eq 90 36 dX15_isPair_33 rfl rfl ?_ ?_
    · refine r_iconst 91 1 dX15_isPair_90 rfl rfl ?_
      refine r_goto 95 dX15_isPair_91 rfl ?_
      exact r_zreturn dX15_isPair_95 rfl
    · exact s_Tw_isPair_b36 P W x1 x2 G
theorem s_Tw_isPair (P W : Int) (G : St) : SS (MTw_isPair P W) some 0 [(0, aR 100)] [] G (Tw_isPair G) := by
  refine r_aload_n 1 0 dX15_isPair_0 rfl rfl rfl ?_
  refine r_iconst 2 0 dX15_isPair_1 rfl rfl ?_
  refine r_callvI 5 (Mc := MTw_look0 P W) (o := 100) (as := [aI 0]) (st := []) dX15_isPair_2 rfl (c_Tw_look0 P W 0 G) lkX15_329 (cmTw_look0 P W) rfl rfl rfl (fun _ => dsT_100 P W _) nn100 rfl (Nat.le_of_ble_eq_true rfl) (Nat.le_of_ble_eq_true rfl) (fun _ => rfl) rfl (fun z1 G2 => ?_)
  refine r_istore_n 6 [(1, aI z1), (0, aR 100)] dX15_isPair_5 rfl rfl rfl rfl ?_
  refine r_aload_n 7 1 dX15_isPair_6 rfl rfl rfl ?_
  refine r_iconst 8 1 dX15_isPair_7 rfl rfl ?_
  refine r_callvI 11 (Mc := MTw_look0 P W) (o := 100) (as := [aI 1]) (st := []) dX15_isPair_8 rfl (c_Tw_look0 P W 1 G2) lkX15_329 (cmTw_look0 P W) rfl rfl rfl (fun _ => dsT_100 P W _) nn100 rfl (Nat.le_of_ble_eq_true rfl) (Nat.le_of_ble_eq_true rfl) (fun _ => rfl) rfl (fun z3 G4 => ?_)
  refine r_istore_n 12 [(2, aI z3), (1, aI z1), (0, aR 100)] dX15_isPair_11 rfl rfl rfl rfl ?_
  refine r_iload_n 13 1 dX15_isPair_12 rfl rfl rfl ?_
  refine r_bipush 15 124 dX15_isPair_13 rfl rfl ?_
  refine r_icmp_ne 24 18 dX15_isPair_15 rfl rfl ?_ ?_
  · refine r_to [1, 0] [(1, aI z1), (2, aI z3)] rfl ?_
    exact s_Tw_isPair_b24 P W z1 z3 G4
  · refine r_iload_n 19 0 dX15_isPair_18 rfl rfl rfl ?_
    refine r_bipush 21 124 dX15_isPair_19 rfl rfl ?_
    refine r_icmp_eq 90 24 dX15_isPair_21 rfl rfl ?_ ?_
    · refine r_iconst 91 1 dX15_isPair_90 rfl rfl ?_
      refine r_goto 95 dX15_isPair_91 rfl ?_
      exact r_zreturn dX15_isPair_95 rfl
    · refine r_to [1, 0] [(1, aI z1), (2, aI z3)] rfl ?_
      exact s_Tw_isPair_b24 P W z1 z3 G4
theorem c_Tw_isPair (P W : Int) (G : St) : MG (MTw_isPair P W) [aR 100] G (Tw_isPair G) := MG.of plX15 (Nat.le_of_ble_eq_true rfl) (s_Tw_isPair P W G)
theorem s_Tw_isSign (P W : Int) (x1 : Int) (G : St) : SS (MTw_isSign P W) some 0 [(0, aR 100), (1, aI x1)] [] G (Tw_isSign x1 G) := by
  refine r_aload_n 1 0 dX15_isSign_0 rfl rfl rfl ?_
  refine r_iconst 2 0 dX15_isSign_1 rfl rfl ?_
  refine r_callvI 5 (Mc := MTw_look0 P W) (o := 100) (as := [aI 0]) (st := []) dX15_isSign_2 rfl (c_Tw_look0 P W 0 G) lkX15_329 (cmTw_look0 P W) rfl rfl rfl (fun _ => dsT_100 P W _) nn100 rfl (Nat.le_of_ble_eq_true rfl) (Nat.le_of_ble_eq_true rfl) (fun _ => rfl) rfl (fun z1 G2 => ?_)
  refine r_iload_n 6 1 dX15_isSign_5 rfl rfl rfl ?_
  refine r_icmp_ne 20 9 dX15_isSign_6 rfl rfl ?_ ?_
  · refine r_iconst 21 0 dX15_isSign_20 rfl rfl ?_
    exact r_zreturn dX15_isSign_21 rfl
  · refine r_aload_n 10 0 dX15_isSign_9 rfl rfl rfl ?_
    refine r_callvI 13 (Mc := MTw_isPair P W) (o := 100) (as := []) (st := []) dX15_isSign_10 rfl (c_Tw_isPair P W G2) lkX15_405 (cmTw_isPair P W) rfl rfl rfl (fun _ => dsT_100 P W _) nn100 rfl (Nat.le_of_ble_eq_true rfl) (Nat.le_of_ble_eq_true rfl) (fun _ => rfl) rfl (fun z3 G4 => ?_)
    refine SS.phi (fun VV_ => ckB VV_ 2 (some (VV_, G4))) ?_
    refine r_if_ne 20 16 dX15_isSign_13 rfl rfl ?_ ?_
    · refine r_iconst 21 0 dX15_isSign_20 rfl rfl ?_
      exact r_zreturn dX15_isSign_21 rfl
    · refine r_iconst 17 1 dX15_isSign_16 rfl rfl ?_
      refine r_goto 21 dX15_isSign_17 rfl ?_
      exact r_zreturn dX15_isSign_21 rfl
theorem c_Tw_isSign (P W : Int) (x1 : Int) (G : St) : MG (MTw_isSign P W) [aR 100, aI x1] G (Tw_isSign x1 G) := MG.of plX15 (Nat.le_of_ble_eq_true rfl) (s_Tw_isSign P W x1 G)
theorem s_Tw_put (P W : Int) (x1 : Int) (x2 : Int) (x3 : Int) (x4 : Int) (G : St) : SS (MTw_put P W) some 0 [(0, aR 100), (1, aI x1), (2, aI x2), (3, aI x3), (4, aI x4)] [] G (Tw_put x1 x2 x3 x4 G) := by
  refine r_aload_n 1 0 dX15_put_0 rfl rfl rfl ?_
  refine r_get 4 (aI (G 100 13)) dX15_put_1 fkX15_411 (fun _ => dsT_100 P W _) nn100 rfl rfl ?_
  refine r_sipush 7 12000 dX15_put_4 rfl rfl ?_
  refine r_icmp_ne 17 10 dX15_put_7 rfl rfl ?_ ?_
  · refine r_aload_n 18 0 dX15_put_17 rfl rfl rfl ?_
    refine r_get 21 (aR 115) dX15_put_18 fkX15_22 (fun _ => dsT_100 P W _) nn100 rfl rfl ?_
    refine r_aload_n 22 0 dX15_put_21 rfl rfl rfl ?_
    refine r_get 25 (aI (G 100 13)) dX15_put_22 fkX15_411 (fun _ => dsT_100 P W _) nn100 rfl rfl ?_
    refine r_iload_n 26 1 dX15_put_25 rfl rfl rfl ?_
    refine r_iast 27 dX15_put_26 (fun _ _ _ => dsT_115 P W _) (fun _ _ => nn115) rfl ?_
    refine ss_tk (fun G1 => ?_)
    refine r_aload_n 28 0 dX15_put_27 rfl rfl rfl ?_
    refine r_get 31 (aR 116) dX15_put_28 fkX15_25 (fun _ => dsT_100 P W _) nn100 rfl rfl ?_
    refine r_aload_n 32 0 dX15_put_31 rfl rfl rfl ?_
    refine r_get 35 (aI (G1 100 13)) dX15_put_32 fkX15_411 (fun _ => dsT_100 P W _) nn100 rfl rfl ?_
    refine r_iload_n 36 2 dX15_put_35 rfl rfl rfl ?_
    refine r_iast 37 dX15_put_36 (fun _ _ _ => dsT_116 P W _) (fun _ _ => nn116) rfl ?_
    refine ss_tk (fun G2 => ?_)
    refine r_aload_n 38 0 dX15_put_37 rfl rfl rfl ?_
    refine r_get 41 (aR 117) dX15_put_38 fkX15_28 (fun _ => dsT_100 P W _) nn100 rfl rfl ?_
    refine r_aload_n 42 0 dX15_put_41 rfl rfl rfl ?_
    refine r_get 45 (aI (G2 100 13)) dX15_put_42 fkX15_411 (fun _ => dsT_100 P W _) nn100 rfl rfl ?_
    refine r_iload_n 46 3 dX15_put_45 rfl rfl rfl ?_
    refine r_iast 47 dX15_put_46 (fun _ _ _ => dsT_117 P W _) (fun _ _ => nn117) rfl ?_
    refine ss_tk (fun G3 => ?_)
    refine r_aload_n 48 0 dX15_put_47 rfl rfl rfl ?_
    refine r_get 51 (aR 118) dX15_put_48 fkX15_31 (fun _ => dsT_100 P W _) nn100 rfl rfl ?_
    refine r_aload_n 52 0 dX15_put_51 rfl rfl rfl ?_
    refine r_get 55 (aI (G3 100 13)) dX15_put_52 fkX15_411 (fun _ => dsT_100 P W _) nn100 rfl rfl ?_
    refine r_iload 57 4 dX15_put_55 rfl rfl ?_
    refine r_iast 58 dX15_put_57 (fun _ _ _ => dsT_118 P W _) (fun _ _ => nn118) rfl ?_
    refine ss_tk (fun G4 => ?_)
    refine r_aload_n 59 0 dX15_put_58 rfl rfl rfl ?_
    refine r_dup 60 dX15_put_59 rfl rfl ?_
    refine r_get 63 (aI (G4 100 13)) dX15_put_60 fkX15_411 (fun _ => dsT_100 P W _) nn100 rfl rfl ?_
    refine r_iconst 64 1 dX15_put_63 rfl rfl ?_
    refine r_iadd 65 dX15_put_64 rfl ?_
    refine r_putI 68 dX15_put_65 fkX15_411 (fun _ => dsT_100 P W _) nn100 rfl rfl ?_
    refine ss_tk (fun G5 => ?_)
    refine r_aload_n 69 0 dX15_put_68 rfl rfl rfl ?_
    refine r_get 72 (aI (G5 100 13)) dX15_put_69 fkX15_411 (fun _ => dsT_100 P W _) nn100 rfl rfl ?_
    refine r_iconst 73 1 dX15_put_72 rfl rfl ?_
    refine r_isub 74 dX15_put_73 rfl ?_
    exact r_ireturn dX15_put_74 rfl
  · refine r_aload_n 11 0 dX15_put_10 rfl rfl rfl ?_
    refine r_get 14 (aI (G 100 13)) dX15_put_11 fkX15_411 (fun _ => dsT_100 P W _) nn100 rfl rfl ?_
    refine r_iconst 15 1 dX15_put_14 rfl rfl ?_
    refine r_isub 16 dX15_put_15 rfl ?_
    exact r_ireturn dX15_put_16 rfl
theorem c_Tw_put (P W : Int) (x1 : Int) (x2 : Int) (x3 : Int) (x4 : Int) (G : St) : MG (MTw_put P W) [aR 100, aI x1, aI x2, aI x3, aI x4] G (Tw_put x1 x2 x3 x4 G) := MG.of plX15 (Nat.le_of_ble_eq_true rfl) (s_Tw_put P W x1 x2 x3 x4 G)
theorem s_Tw_rank_b28 (P W : Int) (x0 : Int) (G : St) : SS (MTw_rank P W) some 28 [(0, aI x0)] [] G (Tw_rank_b28 x0 G) := by
  refine r_iload_n 29 0 dX15_rank_28 rfl rfl rfl ?_
  refine r_bipush 31 12 dX15_rank_29 rfl rfl ?_
  refine SS.phi (fun VV_ => some (VV_, G)) ?_
  refine r_icmp_eq 40 34 dX15_rank_31 rfl rfl ?_ ?_
  · refine r_bipush 42 8 dX15_rank_40 rfl rfl ?_
    refine r_goto 74 dX15_rank_42 rfl ?_
    exact r_ireturn dX15_rank_74 rfl
  · refine r_iload_n 35 0 dX15_rank_34 rfl rfl rfl ?_
    refine r_bipush 37 13 dX15_rank_35 rfl rfl ?_
    refine SS.phi (fun VV_ => some (VV_, G)) ?_
    refine r_icmp_ne 45 40 dX15_rank_37 rfl rfl ?_ ?_
    · refine r_iload_n 46 0 dX15_rank_45 rfl rfl rfl ?_
      refine r_bipush 48 14 dX15_rank_46 rfl rfl ?_
      refine SS.phi (fun VV_ => some (VV_, G)) ?_
      refine r_icmp_eq 57 51 dX15_rank_48 rfl rfl ?_ ?_
      · refine r_bipush 59 9 dX15_rank_57 rfl rfl ?_
        refine r_goto 74 dX15_rank_59 rfl ?_
        exact r_ireturn dX15_rank_74 rfl
      · refine r_iload_n 52 0 dX15_rank_51 rfl rfl rfl ?_
        refine r_bipush 54 15 dX15_rank_52 rfl rfl ?_
        refine SS.phi (fun VV_ => some (VV_, G)) ?_
        refine r_icmp_ne 62 57 dX15_rank_54 rfl rfl ?_ ?_
        · refine r_iload_n 63 0 dX15_rank_62 rfl rfl rfl ?_
          refine r_bipush 65 16 dX15_rank_63 rfl rfl ?_
          refine SS.phi (fun VV_ => some (VV_, G)) ?_
          refine r_icmp_lt 73 68 dX15_rank_65 rfl rfl ?_ ?_
          · refine r_iload_n 74 0 dX15_rank_73 rfl rfl rfl ?_
            exact r_ireturn dX15_rank_74 rfl
          · refine r_bipush 70 10 dX15_rank_68 rfl rfl ?_
            refine r_goto 74 dX15_rank_70 rfl ?_
            exact r_ireturn dX15_rank_74 rfl
        · refine r_bipush 59 9 dX15_rank_57 rfl rfl ?_
          refine r_goto 74 dX15_rank_59 rfl ?_
          exact r_ireturn dX15_rank_74 rfl
    · refine r_bipush 42 8 dX15_rank_40 rfl rfl ?_
      refine r_goto 74 dX15_rank_42 rfl ?_
      exact r_ireturn dX15_rank_74 rfl
theorem s_Tw_rank (P W : Int) (x0 : Int) (G : St) : SS (MTw_rank P W) some 0 [(0, aI x0)] [] G (Tw_rank x0 G) := by
  refine r_iload_n 1 0 dX15_rank_0 rfl rfl rfl ?_
  refine r_bipush 3 7 dX15_rank_1 rfl rfl ?_
  refine r_icmp_ne 11 6 dX15_rank_3 rfl rfl ?_ ?_
  · refine r_iload_n 12 0 dX15_rank_11 rfl rfl rfl ?_
    refine r_bipush 14 8 dX15_rank_12 rfl rfl ?_
    refine r_icmp_lt 28 17 dX15_rank_14 rfl rfl ?_ ?_
    · exact s_Tw_rank_b28 P W x0 G
    · refine r_iload_n 18 0 dX15_rank_17 rfl rfl rfl ?_
      refine r_bipush 20 11 dX15_rank_18 rfl rfl ?_
      refine r_icmp_gt 28 23 dX15_rank_20 rfl rfl ?_ ?_
      · exact s_Tw_rank_b28 P W x0 G
      · refine r_bipush 25 7 dX15_rank_23 rfl rfl ?_
        refine r_goto 74 dX15_rank_25 rfl ?_
        exact r_ireturn dX15_rank_74 rfl
  · refine r_bipush 8 6 dX15_rank_6 rfl rfl ?_
    refine r_goto 74 dX15_rank_8 rfl ?_
    exact r_ireturn dX15_rank_74 rfl
theorem c_Tw_rank (P W : Int) (x0 : Int) (G : St) : MG (MTw_rank P W) [aI x0] G (Tw_rank x0 G) := MG.of plX15 (Nat.le_of_ble_eq_true rfl) (s_Tw_rank P W x0 G)
theorem s_Tw_reduce_s0 (P W : Int) (x1 : Int) (x2 : Int) (X0 : St → Option (Int × St)) (hX0 : ∀ s, So (MTw_reduce P W) 0 [(0, aR 100), (1, aI x1), (2, aI x2)] [] s (X0 s)) (G : St) : SS (MTw_reduce P W) (lk X0 some) 0 [(0, aR 100), (1, aI x1), (2, aI x2)] [] G (Tw_reduce_s0 x1 x2 G) := by
  refine r_aload_n 1 0 dX15_reduce_0 rfl rfl rfl ?_
  refine r_get 4 (aI (G 100 20)) dX15_reduce_1 fkX15_417 (fun _ => dsT_100 P W _) nn100 rfl rfl ?_
  refine r_iload_n 5 1 dX15_reduce_4 rfl rfl rfl ?_
  refine r_icmp_le 80 8 dX15_reduce_5 rfl rfl ?_ ?_
  · refine SS.ex ?_
    exact r_return dX15_reduce_80 rfl
  · refine r_aload_n 9 0 dX15_reduce_8 rfl rfl rfl ?_
    refine r_get 12 (aR 122) dX15_reduce_9 fkX15_38 (fun _ => dsT_100 P W _) nn100 rfl rfl ?_
    refine r_aload_n 13 0 dX15_reduce_12 rfl rfl rfl ?_
    refine r_get 16 (aI (G 100 20)) dX15_reduce_13 fkX15_417 (fun _ => dsT_100 P W _) nn100 rfl rfl ?_
    refine r_iconst 17 1 dX15_reduce_16 rfl rfl ?_
    refine r_isub 18 dX15_reduce_17 rfl ?_
    refine r_iald 19 dX15_reduce_18 (fun _ _ _ => dsT_122 P W _) (fun _ _ => nn122) rfl ?_
    refine r_iconst 20 1 dX15_reduce_19 rfl rfl ?_
    refine r_icmp_ne 80 23 dX15_reduce_20 rfl rfl ?_ ?_
    · refine SS.ex ?_
      exact r_return dX15_reduce_80 rfl
    · refine r_aload_n 24 0 dX15_reduce_23 rfl rfl rfl ?_
      refine r_get 27 (aR 123) dX15_reduce_24 fkX15_41 (fun _ => dsT_100 P W _) nn100 rfl rfl ?_
      refine r_aload_n 28 0 dX15_reduce_27 rfl rfl rfl ?_
      refine r_get 31 (aI (G 100 20)) dX15_reduce_28 fkX15_417 (fun _ => dsT_100 P W _) nn100 rfl rfl ?_
      refine r_iconst 32 1 dX15_reduce_31 rfl rfl ?_
      refine r_isub 33 dX15_reduce_32 rfl ?_
      refine r_iald 34 dX15_reduce_33 (fun _ _ _ => dsT_123 P W _) (fun _ _ => nn123) rfl ?_
      refine r_callsI 37 (Mc := MTw_rank P W) (as := [aI (G 123 ((G 100 20) - 1))]) (st := []) dX15_reduce_34 rfl (c_Tw_rank P W (G 123 ((G 100 20) - 1)) G) q2415 (cmTw_rank P W) rfl rfl rfl (Nat.le_of_ble_eq_true rfl) (Nat.le_of_ble_eq_true rfl) (fun _ => rfl) rfl (fun z1 G2 => ?_)
      refine r_iload_n 38 2 dX15_reduce_37 rfl rfl rfl ?_
      refine r_icmp_lt 80 41 dX15_reduce_38 rfl rfl ?_ ?_
      · refine SS.ex ?_
        exact r_return dX15_reduce_80 rfl
      · refine r_aload_n 42 0 dX15_reduce_41 rfl rfl rfl ?_
        refine r_dup 43 dX15_reduce_42 rfl rfl ?_
        refine r_get 46 (aI (G2 100 20)) dX15_reduce_43 fkX15_417 (fun _ => dsT_100 P W _) nn100 rfl rfl ?_
        refine r_iconst 47 1 dX15_reduce_46 rfl rfl ?_
        refine r_isub 48 dX15_reduce_47 rfl ?_
        refine r_putI 51 dX15_reduce_48 fkX15_417 (fun _ => dsT_100 P W _) nn100 rfl rfl ?_
        refine ss_tk (fun G3 => ?_)
        refine r_aload_n 52 0 dX15_reduce_51 rfl rfl rfl ?_
        refine r_bipush 54 13 dX15_reduce_52 rfl rfl ?_
        refine r_aload_n 55 0 dX15_reduce_54 rfl rfl rfl ?_
        refine r_get 58 (aR 123) dX15_reduce_55 fkX15_41 (fun _ => dsT_100 P W _) nn100 rfl rfl ?_
        refine r_aload_n 59 0 dX15_reduce_58 rfl rfl rfl ?_
        refine r_get 62 (aI (G3 100 20)) dX15_reduce_59 fkX15_417 (fun _ => dsT_100 P W _) nn100 rfl rfl ?_
        refine r_iald 63 dX15_reduce_62 (fun _ _ _ => dsT_123 P W _) (fun _ _ => nn123) rfl ?_
        refine r_iconst 64 0 dX15_reduce_63 rfl rfl ?_
        refine r_aload_n 65 0 dX15_reduce_64 rfl rfl rfl ?_
        refine r_get 68 (aR 124) dX15_reduce_65 fkX15_44 (fun _ => dsT_100 P W _) nn100 rfl rfl ?_
        refine r_aload_n 69 0 dX15_reduce_68 rfl rfl rfl ?_
        refine r_get 72 (aI (G3 100 20)) dX15_reduce_69 fkX15_417 (fun _ => dsT_100 P W _) nn100 rfl rfl ?_
        refine r_iald 73 dX15_reduce_72 (fun _ _ _ => dsT_124 P W _) (fun _ _ => nn124) rfl ?_
        refine r_callvI 76 (Mc := MTw_put P W) (o := 100) (as := [aI 13, aI (G3 123 (G3 100 20)), aI 0, aI (G3 124 (G3 100 20))]) (st := []) dX15_reduce_73 rfl (c_Tw_put P W 13 (G3 123 (G3 100 20)) 0 (G3 124 (G3 100 20)) G3) lkX15_423 (cmTw_put P W) rfl rfl rfl (fun _ => dsT_100 P W _) nn100 rfl (Nat.le_of_ble_eq_true rfl) (Nat.le_of_ble_eq_true rfl) (fun _ => rfl) rfl (fun z4 G5 => ?_)
        refine r_istore_n 77 [(3, aI z4), (0, aR 100), (1, aI x1), (2, aI x2)] dX15_reduce_76 rfl rfl rfl rfl ?_
        refine r_goto 0 dX15_reduce_77 rfl ?_
        refine r_to [1, 2, 3] [(0, aR 100), (1, aI x1), (2, aI x2)] rfl ?_
        exact SS.back (hX0 (G5))
theorem sl_Tw_reduce_0 (P W : Int) (x1 : Int) (x2 : Int) (G : St) : SS (MTw_reduce P W) some 0 [(0, aR 100), (1, aI x1), (2, aI x2)] [] G (Tw_reduce_l0 x1 x2 G) := by
  exact SS.loop (σ := St) (fun s => [(0, aR 100), (1, aI x1), (2, aI x2)]) (fun s => s) (fun s => Tw_reduce_s0 x1 x2 s) (fun X0 hX0 s => s_Tw_reduce_s0 P W x1 x2  X0 hX0 s) (G)
theorem s_Tw_reduce (P W : Int) (x1 : Int) (x2 : Int) (G : St) : SS (MTw_reduce P W) some 0 [(0, aR 100), (1, aI x1), (2, aI x2)] [] G (Tw_reduce x1 x2 G) := by
  exact sl_Tw_reduce_0 P W x1 x2 G
theorem c_Tw_reduce (P W : Int) (x1 : Int) (x2 : Int) (G : St) : MG (MTw_reduce P W) [aR 100, aI x1, aI x2] G (Tw_reduce x1 x2 G) := MG.of plX15 (Nat.le_of_ble_eq_true rfl) (s_Tw_reduce P W x1 x2 G)
theorem s_Tw_reduceAll_s6 (P W : Int) (x1 : Int) (X6 : St → Option (Int × St)) (hX6 : ∀ s, So (MTw_reduceAll P W) 6 [(0, aR 100), (1, aI x1)] [] s (X6 s)) (G : St) : SS (MTw_reduceAll P W) (lk X6 some) 6 [(0, aR 100), (1, aI x1)] [] G (Tw_reduceAll_s6 x1 G) := by
  refine r_aload_n 7 0 dX15_reduceAll_6 rfl rfl rfl ?_
  refine r_get 10 (aI (G 100 20)) dX15_reduceAll_7 fkX15_417 (fun _ => dsT_100 P W _) nn100 rfl rfl ?_
  refine r_iload_n 11 1 dX15_reduceAll_10 rfl rfl rfl ?_
  refine r_icmp_le 76 14 dX15_reduceAll_11 rfl rfl ?_ ?_
  · refine SS.ex ?_
    exact r_return dX15_reduceAll_76 rfl
  · refine r_aload_n 15 0 dX15_reduceAll_14 rfl rfl rfl ?_
    refine r_get 18 (aR 122) dX15_reduceAll_15 fkX15_38 (fun _ => dsT_100 P W _) nn100 rfl rfl ?_
    refine r_aload_n 19 0 dX15_reduceAll_18 rfl rfl rfl ?_
    refine r_get 22 (aI (G 100 20)) dX15_reduceAll_19 fkX15_417 (fun _ => dsT_100 P W _) nn100 rfl rfl ?_
    refine r_iconst 23 1 dX15_reduceAll_22 rfl rfl ?_
    refine r_isub 24 dX15_reduceAll_23 rfl ?_
    refine r_iald 25 dX15_reduceAll_24 (fun _ _ _ => dsT_122 P W _) (fun _ _ => nn122) rfl ?_
    refine r_iconst 26 4 dX15_reduceAll_25 rfl rfl ?_
    refine r_icmp_ne 76 29 dX15_reduceAll_26 rfl rfl ?_ ?_
    · refine SS.ex ?_
      exact r_return dX15_reduceAll_76 rfl
    · refine r_aload_n 30 0 dX15_reduceAll_29 rfl rfl rfl ?_
      refine r_dup 31 dX15_reduceAll_30 rfl rfl ?_
      refine r_get 34 (aI (G 100 20)) dX15_reduceAll_31 fkX15_417 (fun _ => dsT_100 P W _) nn100 rfl rfl ?_
      refine r_iconst 35 1 dX15_reduceAll_34 rfl rfl ?_
      refine r_isub 36 dX15_reduceAll_35 rfl ?_
      refine r_putI 39 dX15_reduceAll_36 fkX15_417 (fun _ => dsT_100 P W _) nn100 rfl rfl ?_
      refine ss_tk (fun G3 => ?_)
      refine r_aload_n 40 0 dX15_reduceAll_39 rfl rfl rfl ?_
      refine r_dup 41 dX15_reduceAll_40 rfl rfl ?_
      refine r_get 44 (aI (G3 100 19)) dX15_reduceAll_41 fkX15_414 (fun _ => dsT_100 P W _) nn100 rfl rfl ?_
      refine r_iconst 45 1 dX15_reduceAll_44 rfl rfl ?_
      refine r_isub 46 dX15_reduceAll_45 rfl ?_
      refine r_putI 49 dX15_reduceAll_46 fkX15_414 (fun _ => dsT_100 P W _) nn100 rfl rfl ?_
      refine ss_tk (fun G4 => ?_)
      refine r_aload_n 50 0 dX15_reduceAll_49 rfl rfl rfl ?_
      refine r_bipush 52 14 dX15_reduceAll_50 rfl rfl ?_
      refine r_iconst 53 0 dX15_reduceAll_52 rfl rfl ?_
      refine r_iconst 54 0 dX15_reduceAll_53 rfl rfl ?_
      refine r_aload_n 55 0 dX15_reduceAll_54 rfl rfl rfl ?_
      refine r_get 58 (aR 124) dX15_reduceAll_55 fkX15_44 (fun _ => dsT_100 P W _) nn100 rfl rfl ?_
      refine r_aload_n 59 0 dX15_reduceAll_58 rfl rfl rfl ?_
      refine r_get 62 (aI (G4 100 20)) dX15_reduceAll_59 fkX15_417 (fun _ => dsT_100 P W _) nn100 rfl rfl ?_
      refine r_iald 63 dX15_reduceAll_62 (fun _ _ _ => dsT_124 P W _) (fun _ _ => nn124) rfl ?_
      refine r_callvI 66 (Mc := MTw_put P W) (o := 100) (as := [aI 14, aI 0, aI 0, aI (G4 124 (G4 100 20))]) (st := []) dX15_reduceAll_63 rfl (c_Tw_put P W 14 0 0 (G4 124 (G4 100 20)) G4) lkX15_423 (cmTw_put P W) rfl rfl rfl (fun _ => dsT_100 P W _) nn100 rfl (Nat.le_of_ble_eq_true rfl) (Nat.le_of_ble_eq_true rfl) (fun _ => rfl) rfl (fun z5 G6 => ?_)
      refine r_istore_n 67 [(2, aI z5), (0, aR 100), (1, aI x1)] dX15_reduceAll_66 rfl rfl rfl rfl ?_
      refine r_aload_n 68 1 dX15_reduceAll_67 rfl rfl rfl ?_
      refine r_iload_n 69 2 dX15_reduceAll_68 rfl rfl rfl ?_
      refine r_iconst 70 0 dX15_reduceAll_69 rfl rfl ?_
      refine r_callvV 73 (Mc := MTw_reduce P W) (o := 100) (as := [aI x1, aI 0]) (st := []) dX15_reduceAll_70 rfl (c_Tw_reduce P W x1 0 G6) lkX15_427 (cmTw_reduce P W) rfl rfl rfl (fun _ => dsT_100 P W _) nn100 rfl (Nat.le_of_ble_eq_true rfl) (Nat.le_of_ble_eq_true rfl) (fun _ => rfl) rfl (fun z7 G8 => ?_)
      refine r_goto 6 dX15_reduceAll_73 rfl ?_
      refine r_to [1, 2] [(0, aR 100), (1, aI x1)] rfl ?_
      exact SS.back (hX6 (G8))
theorem sl_Tw_reduceAll_6 (P W : Int) (x1 : Int) (G : St) : SS (MTw_reduceAll P W) some 6 [(0, aR 100), (1, aI x1)] [] G (Tw_reduceAll_l6 x1 G) := by
  exact SS.loop (σ := St) (fun s => [(0, aR 100), (1, aI x1)]) (fun s => s) (fun s => Tw_reduceAll_s6 x1 s) (fun X6 hX6 s => s_Tw_reduceAll_s6 P W x1  X6 hX6 s) (G)
theorem s_Tw_reduceAll (P W : Int) (x1 : Int) (G : St) : SS (MTw_reduceAll P W) some 0 [(0, aR 100), (1, aI x1)] [] G (Tw_reduceAll x1 G) := by
  refine r_aload_n 1 0 dX15_reduceAll_0 rfl rfl rfl ?_
  refine r_iload_n 2 1 dX15_reduceAll_1 rfl rfl rfl ?_
  refine r_iconst 3 0 dX15_reduceAll_2 rfl rfl ?_
  refine r_callvV 6 (Mc := MTw_reduce P W) (o := 100) (as := [aI x1, aI 0]) (st := []) dX15_reduceAll_3 rfl (c_Tw_reduce P W x1 0 G) lkX15_427 (cmTw_reduce P W) rfl rfl rfl (fun _ => dsT_100 P W _) nn100 rfl (Nat.le_of_ble_eq_true rfl) (Nat.le_of_ble_eq_true rfl) (fun _ => rfl) rfl (fun z1 G2 => ?_)
  exact sl_Tw_reduceAll_6 P W x1 G2
theorem c_Tw_reduceAll (P W : Int) (x1 : Int) (G : St) : MG (MTw_reduceAll P W) [aR 100, aI x1] G (Tw_reduceAll x1 G) := MG.of plX15 (Nat.le_of_ble_eq_true rfl) (s_Tw_reduceAll P W x1 G)
theorem s_Tw_signsOver_s0 (P W : Int) (x1 : Int) (X0 : St → Option (Int × St)) (hX0 : ∀ s, So (MTw_signsOver P W) 0 [(0, aR 100), (1, aI x1)] [] s (X0 s)) (G : St) : SS (MTw_signsOver P W) (lk X0 some) 0 [(0, aR 100), (1, aI x1)] [] G (Tw_signsOver_s0 x1 G) := by
  refine r_aload_n 1 0 dX15_signsOver_0 rfl rfl rfl ?_
  refine r_get 4 (aI (G 100 20)) dX15_signsOver_1 fkX15_417 (fun _ => dsT_100 P W _) nn100 rfl rfl ?_
  refine r_iload_n 5 1 dX15_signsOver_4 rfl rfl rfl ?_
  refine r_icmp_le 72 8 dX15_signsOver_5 rfl rfl ?_ ?_
  · refine SS.ex ?_
    exact r_return dX15_signsOver_72 rfl
  · refine r_aload_n 9 0 dX15_signsOver_8 rfl rfl rfl ?_
    refine r_get 12 (aR 122) dX15_signsOver_9 fkX15_38 (fun _ => dsT_100 P W _) nn100 rfl rfl ?_
    refine r_aload_n 13 0 dX15_signsOver_12 rfl rfl rfl ?_
    refine r_get 16 (aI (G 100 20)) dX15_signsOver_13 fkX15_417 (fun _ => dsT_100 P W _) nn100 rfl rfl ?_
    refine r_iconst 17 1 dX15_signsOver_16 rfl rfl ?_
    refine r_isub 18 dX15_signsOver_17 rfl ?_
    refine r_iald 19 dX15_signsOver_18 (fun _ _ _ => dsT_122 P W _) (fun _ _ => nn122) rfl ?_
    refine r_iconst 20 2 dX15_signsOver_19 rfl rfl ?_
    refine r_icmp_ne 72 23 dX15_signsOver_20 rfl rfl ?_ ?_
    · refine SS.ex ?_
      exact r_return dX15_signsOver_72 rfl
    · refine r_aload_n 24 0 dX15_signsOver_23 rfl rfl rfl ?_
      refine r_dup 25 dX15_signsOver_24 rfl rfl ?_
      refine r_get 28 (aI (G 100 20)) dX15_signsOver_25 fkX15_417 (fun _ => dsT_100 P W _) nn100 rfl rfl ?_
      refine r_iconst 29 1 dX15_signsOver_28 rfl rfl ?_
      refine r_isub 30 dX15_signsOver_29 rfl ?_
      refine r_putI 33 dX15_signsOver_30 fkX15_417 (fun _ => dsT_100 P W _) nn100 rfl rfl ?_
      refine ss_tk (fun G1 => ?_)
      refine r_aload_n 34 0 dX15_signsOver_33 rfl rfl rfl ?_
      refine r_dup 35 dX15_signsOver_34 rfl rfl ?_
      refine r_get 38 (aI (G1 100 19)) dX15_signsOver_35 fkX15_414 (fun _ => dsT_100 P W _) nn100 rfl rfl ?_
      refine r_iconst 39 1 dX15_signsOver_38 rfl rfl ?_
      refine r_isub 40 dX15_signsOver_39 rfl ?_
      refine r_putI 43 dX15_signsOver_40 fkX15_414 (fun _ => dsT_100 P W _) nn100 rfl rfl ?_
      refine ss_tk (fun G2 => ?_)
      refine r_aload_n 44 0 dX15_signsOver_43 rfl rfl rfl ?_
      refine r_bipush 46 12 dX15_signsOver_44 rfl rfl ?_
      refine r_aload_n 47 0 dX15_signsOver_46 rfl rfl rfl ?_
      refine r_get 50 (aR 123) dX15_signsOver_47 fkX15_41 (fun _ => dsT_100 P W _) nn100 rfl rfl ?_
      refine r_aload_n 51 0 dX15_signsOver_50 rfl rfl rfl ?_
      refine r_get 54 (aI (G2 100 20)) dX15_signsOver_51 fkX15_417 (fun _ => dsT_100 P W _) nn100 rfl rfl ?_
      refine r_iald 55 dX15_signsOver_54 (fun _ _ _ => dsT_123 P W _) (fun _ _ => nn123) rfl ?_
      refine r_iconst 56 0 dX15_signsOver_55 rfl rfl ?_
      refine r_aload_n 57 0 dX15_signsOver_56 rfl rfl rfl ?_
      refine r_get 60 (aR 124) dX15_signsOver_57 fkX15_44 (fun _ => dsT_100 P W _) nn100 rfl rfl ?_
      refine r_aload_n 61 0 dX15_signsOver_60 rfl rfl rfl ?_
      refine r_get 64 (aI (G2 100 20)) dX15_signsOver_61 fkX15_417 (fun _ => dsT_100 P W _) nn100 rfl rfl ?_
      refine r_iald 65 dX15_signsOver_64 (fun _ _ _ => dsT_124 P W _) (fun _ _ => nn124) rfl ?_
      refine r_callvI 68 (Mc := MTw_put P W) (o := 100) (as := [aI 12, aI (G2 123 (G2 100 20)), aI 0, aI (G2 124 (G2 100 20))]) (st := []) dX15_signsOver_65 rfl (c_Tw_put P W 12 (G2 123 (G2 100 20)) 0 (G2 124 (G2 100 20)) G2) lkX15_423 (cmTw_put P W) rfl rfl rfl (fun _ => dsT_100 P W _) nn100 rfl (Nat.le_of_ble_eq_true rfl) (Nat.le_of_ble_eq_true rfl) (fun _ => rfl) rfl (fun z3 G4 => ?_)
      refine r_istore_n 69 [(2, aI z3), (0, aR 100), (1, aI x1)] dX15_signsOver_68 rfl rfl rfl rfl ?_
      refine r_goto 0 dX15_signsOver_69 rfl ?_
      refine r_to [1, 2] [(0, aR 100), (1, aI x1)] rfl ?_
      exact SS.back (hX0 (G4))
theorem sl_Tw_signsOver_0 (P W : Int) (x1 : Int) (G : St) : SS (MTw_signsOver P W) some 0 [(0, aR 100), (1, aI x1)] [] G (Tw_signsOver_l0 x1 G) := by
  exact SS.loop (σ := St) (fun s => [(0, aR 100), (1, aI x1)]) (fun s => s) (fun s => Tw_signsOver_s0 x1 s) (fun X0 hX0 s => s_Tw_signsOver_s0 P W x1  X0 hX0 s) (G)
theorem s_Tw_signsOver (P W : Int) (x1 : Int) (G : St) : SS (MTw_signsOver P W) some 0 [(0, aR 100), (1, aI x1)] [] G (Tw_signsOver x1 G) := by
  exact sl_Tw_signsOver_0 P W x1 G
theorem c_Tw_signsOver (P W : Int) (x1 : Int) (G : St) : MG (MTw_signsOver P W) [aR 100, aI x1] G (Tw_signsOver x1 G) := MG.of plX15 (Nat.le_of_ble_eq_true rfl) (s_Tw_signsOver P W x1 G)
theorem s_Tw_closes_b515 (P W : Int) (x1 : Int) (G : St) : SS (MTw_closes P W) some 515 [(0, aR 100), (1, aI x1)] [] G (Tw_closes_b515 x1 G) := by
  refine r_aload_n 516 0 dX15_closes_515 rfl rfl rfl ?_
  refine r_iload_n 517 1 dX15_closes_516 rfl rfl rfl ?_
  refine r_callvV 520 (Mc := MTw_signsOver P W) (o := 100) (as := [aI x1]) (st := []) dX15_closes_517 rfl (c_Tw_signsOver P W x1 G) lkX15_451 (cmTw_signsOver P W) rfl rfl rfl (fun _ => dsT_100 P W _) nn100 rfl (Nat.le_of_ble_eq_true rfl) (Nat.le_of_ble_eq_true rfl) (fun _ => rfl) rfl (fun z15 G16 => ?_)
  refine r_iconst 521 1 dX15_closes_520 rfl rfl ?_
  exact r_zreturn dX15_closes_521 rfl
theorem s_Tw_closes_b506 (P W : Int) (x1 : Int) (x5 : Int) (s0 : Int) (G : St) : SS (MTw_closes P W) some 506 [(0, aR 100), (1, aI x1), (5, aI x5)] [aI s0, aR 100] G (Tw_closes_b506 x1 x5 s0 G) := by
  refine r_iconst 507 0 dX15_closes_506 rfl rfl ?_
  refine r_iconst 508 0 dX15_closes_507 rfl rfl ?_
  refine r_iload 510 2 dX15_closes_508 rfl rfl ?_
  refine r_callvI 513 (Mc := MTw_put P W) (o := 100) (as := [aI s0, aI 0, aI 0, aI x5]) (st := []) dX15_closes_510 rfl (c_Tw_put P W s0 0 0 x5 G) lkX15_423 (cmTw_put P W) rfl rfl rfl (fun _ => dsT_100 P W _) nn100 rfl (Nat.le_of_ble_eq_true rfl) (Nat.le_of_ble_eq_true rfl) (fun _ => rfl) rfl (fun z13 G14 => ?_)
  refine r_istore 515 [(6, aI z13), (0, aR 100), (1, aI x1), (5, aI x5)] dX15_closes_513 rfl rfl rfl ?_
  refine r_to [1, 2] [(0, aR 100), (1, aI x1)] rfl ?_
  exact s_Tw_closes_b515 P W x1 G14
theorem s_Tw_closes_b464 (P W : Int) (x1 : Int) (x5 : Int) (G : St) : SS (MTw_closes P W) some 464 [(0, aR 100), (1, aI x1), (5, aI x5)] [] G (Tw_closes_b464 x1 x5 G) := by
  refine r_aload_n 465 0 dX15_closes_464 rfl rfl rfl ?_
  refine r_bipush 467 9 dX15_closes_465 rfl rfl ?_
  refine r_aload_n 468 0 dX15_closes_467 rfl rfl rfl ?_
  refine r_get 471 (aR 116) dX15_closes_468 fkX15_25 (fun _ => dsT_100 P W _) nn100 rfl rfl ?_
  refine r_aload_n 472 0 dX15_closes_471 rfl rfl rfl ?_
  refine r_get 475 (aR 123) dX15_closes_472 fkX15_41 (fun _ => dsT_100 P W _) nn100 rfl rfl ?_
  refine r_aload_n 476 0 dX15_closes_475 rfl rfl rfl ?_
  refine r_get 479 (aI (G 100 20)) dX15_closes_476 fkX15_417 (fun _ => dsT_100 P W _) nn100 rfl rfl ?_
  refine r_iald 480 dX15_closes_479 (fun _ _ _ => dsT_123 P W _) (fun _ _ => nn123) rfl ?_
  refine r_iald 481 dX15_closes_480 (fun _ _ _ => dsT_116 P W _) (fun _ _ => nn116) rfl ?_
  refine r_iconst 482 0 dX15_closes_481 rfl rfl ?_
  refine r_iload 484 2 dX15_closes_482 rfl rfl ?_
  refine r_callvI 487 (Mc := MTw_put P W) (o := 100) (as := [aI 9, aI (G 116 (G 123 (G 100 20))), aI 0, aI x5]) (st := []) dX15_closes_484 rfl (c_Tw_put P W 9 (G 116 (G 123 (G 100 20))) 0 x5 G) lkX15_423 (cmTw_put P W) rfl rfl rfl (fun _ => dsT_100 P W _) nn100 rfl (Nat.le_of_ble_eq_true rfl) (Nat.le_of_ble_eq_true rfl) (fun _ => rfl) rfl (fun z18 G19 => ?_)
  refine r_istore 489 [(6, aI z18), (0, aR 100), (1, aI x1), (5, aI x5)] dX15_closes_487 rfl rfl rfl ?_
  refine r_goto 515 dX15_closes_489 rfl ?_
  refine r_to [1, 2] [(0, aR 100), (1, aI x1)] rfl ?_
  exact s_Tw_closes_b515 P W x1 G19
theorem s_Tw_closes_b437 (P W : Int) (x1 : Int) (x2 : Int) (x5 : Int) (s0 : Int) (s1 : Int) (G : St) : SS (MTw_closes P W) some 437 [(0, aR 100), (1, aI x1), (2, aI x2), (5, aI x5)] [aI s0, aI s1, aR 117] G (Tw_closes_b437 x1 x2 x5 s0 s1 G) := by
  refine r_iast 438 dX15_closes_437 (fun _ _ _ => dsT_117 P W _) (fun _ _ => nn117) rfl ?_
  refine ss_tk (fun G17 => ?_)
  refine r_iload_n 439 2 dX15_closes_438 rfl rfl rfl ?_
  refine r_if_ne 464 442 dX15_closes_439 rfl rfl ?_ ?_
  · refine r_to [0, 1, 3] [(0, aR 100), (1, aI x1), (5, aI x5)] rfl ?_
    exact s_Tw_closes_b464 P W x1 x5 G17
  · refine r_aload_n 443 0 dX15_closes_442 rfl rfl rfl ?_
    refine r_bipush 445 16 dX15_closes_443 rfl rfl ?_
    refine r_aload_n 446 0 dX15_closes_445 rfl rfl rfl ?_
    refine r_get 449 (aR 123) dX15_closes_446 fkX15_41 (fun _ => dsT_100 P W _) nn100 rfl rfl ?_
    refine r_aload_n 450 0 dX15_closes_449 rfl rfl rfl ?_
    refine r_get 453 (aI (G17 100 20)) dX15_closes_450 fkX15_417 (fun _ => dsT_100 P W _) nn100 rfl rfl ?_
    refine r_iald 454 dX15_closes_453 (fun _ _ _ => dsT_123 P W _) (fun _ _ => nn123) rfl ?_
    refine r_iconst 455 0 dX15_closes_454 rfl rfl ?_
    refine r_aload_n 456 0 dX15_closes_455 rfl rfl rfl ?_
    refine r_get 459 (aI (G17 100 6)) dX15_closes_456 fkX15_326 (fun _ => dsT_100 P W _) nn100 rfl rfl ?_
    refine r_callvI 462 (Mc := MTw_put P W) (o := 100) (as := [aI 16, aI (G17 123 (G17 100 20)), aI 0, aI (G17 100 6)]) (st := []) dX15_closes_459 rfl (c_Tw_put P W 16 (G17 123 (G17 100 20)) 0 (G17 100 6) G17) lkX15_423 (cmTw_put P W) rfl rfl rfl (fun _ => dsT_100 P W _) nn100 rfl (Nat.le_of_ble_eq_true rfl) (Nat.le_of_ble_eq_true rfl) (fun _ => rfl) rfl (fun z20 G21 => ?_)
    refine r_istore 464 [(6, aI z20), (0, aR 100), (1, aI x1), (2, aI x2), (5, aI x5)] dX15_closes_462 rfl rfl rfl ?_
    refine r_to [1, 2, 4] [(0, aR 100), (1, aI x1), (5, aI x5)] rfl ?_
    exact s_Tw_closes_b464 P W x1 x5 G21
theorem s_Tw_closes_b288 (P W : Int) (x1 : Int) (x2 : Int) (x3 : Int) (s0 : Int) (G : St) : SS (MTw_closes P W) some 288 [(0, aR 100), (1, aI x1), (2, aI x2), (3, aI x3)] [aI s0] G (Tw_closes_b288 x1 x2 x3 s0 G) := by
  refine r_istore 290 [(4, aI s0), (0, aR 100), (1, aI x1), (2, aI x2), (3, aI x3)] dX15_closes_288 rfl rfl rfl ?_
  refine r_iload 292 0 dX15_closes_290 rfl rfl ?_
  refine r_if_ne 306 295 dX15_closes_292 rfl rfl ?_ ?_
  · refine r_aload_n 307 1 dX15_closes_306 rfl rfl rfl ?_
    refine r_dup 308 dX15_closes_307 rfl rfl ?_
    refine r_get 311 (aI (G 100 6)) dX15_closes_308 fkX15_326 (fun _ => dsT_100 P W _) nn100 rfl rfl ?_
    refine r_iconst 312 1 dX15_closes_311 rfl rfl ?_
    refine r_iadd 313 dX15_closes_312 rfl ?_
    refine r_putI 316 dX15_closes_313 fkX15_326 (fun _ => dsT_100 P W _) nn100 rfl rfl ?_
    refine ss_tk (fun G10 => ?_)
    refine r_aload_n 317 1 dX15_closes_316 rfl rfl rfl ?_
    refine r_dup 318 dX15_closes_317 rfl rfl ?_
    refine r_get 321 (aI (G10 100 20)) dX15_closes_318 fkX15_417 (fun _ => dsT_100 P W _) nn100 rfl rfl ?_
    refine r_iconst 322 1 dX15_closes_321 rfl rfl ?_
    refine r_isub 323 dX15_closes_322 rfl ?_
    refine r_putI 326 dX15_closes_323 fkX15_417 (fun _ => dsT_100 P W _) nn100 rfl rfl ?_
    refine ss_tk (fun G11 => ?_)
    refine r_aload_n 327 1 dX15_closes_326 rfl rfl rfl ?_
    refine r_dup 328 dX15_closes_327 rfl rfl ?_
    refine r_get 331 (aI (G11 100 19)) dX15_closes_328 fkX15_414 (fun _ => dsT_100 P W _) nn100 rfl rfl ?_
    refine r_iconst 332 1 dX15_closes_331 rfl rfl ?_
    refine r_isub 333 dX15_closes_332 rfl ?_
    refine r_putI 336 dX15_closes_333 fkX15_414 (fun _ => dsT_100 P W _) nn100 rfl rfl ?_
    refine ss_tk (fun G12 => ?_)
    refine r_aload_n 337 1 dX15_closes_336 rfl rfl rfl ?_
    refine r_get 340 (aR 124) dX15_closes_337 fkX15_44 (fun _ => dsT_100 P W _) nn100 rfl rfl ?_
    refine r_aload_n 341 1 dX15_closes_340 rfl rfl rfl ?_
    refine r_get 344 (aI (G12 100 20)) dX15_closes_341 fkX15_417 (fun _ => dsT_100 P W _) nn100 rfl rfl ?_
    refine r_iald 345 dX15_closes_344 (fun _ _ _ => dsT_124 P W _) (fun _ _ => nn124) rfl ?_
    refine r_istore 347 [(5, aI (G12 124 (G12 100 20))), (4, aI s0), (0, aR 100), (1, aI x1), (2, aI x2), (3, aI x3)] dX15_closes_345 rfl rfl rfl ?_
    refine r_iconst 348 0 dX15_closes_347 rfl rfl ?_
    refine r_istore 350 [(6, aI 0), (5, aI (G12 124 (G12 100 20))), (4, aI s0), (0, aR 100), (1, aI x1), (2, aI x2), (3, aI x3)] dX15_closes_348 rfl rfl rfl ?_
    refine r_iload_n 351 6 dX15_closes_350 rfl rfl rfl ?_
    refine r_iconst 352 5 dX15_closes_351 rfl rfl ?_
    refine r_icmp_ne 370 355 dX15_closes_352 rfl rfl ?_ ?_
    · refine r_iload_n 371 6 dX15_closes_370 rfl rfl rfl ?_
      refine r_bipush 373 6 dX15_closes_371 rfl rfl ?_
      refine r_icmp_ne 399 376 dX15_closes_373 rfl rfl ?_ ?_
      · refine r_iload_n 400 6 dX15_closes_399 rfl rfl rfl ?_
        refine r_bipush 402 7 dX15_closes_400 rfl rfl ?_
        refine r_icmp_ne 492 405 dX15_closes_402 rfl rfl ?_ ?_
        · refine r_aload_n 493 3 dX15_closes_492 rfl rfl rfl ?_
          refine r_iload_n 494 6 dX15_closes_493 rfl rfl rfl ?_
          refine r_bipush 496 8 dX15_closes_494 rfl rfl ?_
          refine SS.phi (fun VV_ => Tw_closes_b506 x1 (G12 124 (G12 100 20)) VV_ G12) ?_
          refine r_icmp_ne 504 499 dX15_closes_496 rfl rfl ?_ ?_
          · refine r_bipush 506 11 dX15_closes_504 rfl rfl ?_
            refine r_to [3, 4, 1] [(0, aR 100), (1, aI x1), (5, aI (G12 124 (G12 100 20)))] rfl ?_
            exact s_Tw_closes_b506 P W x1 (G12 124 (G12 100 20)) 11 G12
          · refine r_bipush 501 10 dX15_closes_499 rfl rfl ?_
            refine r_goto 506 dX15_closes_501 rfl ?_
            refine r_to [3, 4, 1] [(0, aR 100), (1, aI x1), (5, aI (G12 124 (G12 100 20)))] rfl ?_
            exact s_Tw_closes_b506 P W x1 (G12 124 (G12 100 20)) 10 G12
        · refine r_aload_n 406 3 dX15_closes_405 rfl rfl rfl ?_
          refine r_get 409 (aR 117) dX15_closes_406 fkX15_28 (fun _ => dsT_100 P W _) nn100 rfl rfl ?_
          refine r_aload_n 410 3 dX15_closes_409 rfl rfl rfl ?_
          refine r_get 413 (aR 123) dX15_closes_410 fkX15_41 (fun _ => dsT_100 P W _) nn100 rfl rfl ?_
          refine r_aload_n 414 3 dX15_closes_413 rfl rfl rfl ?_
          refine r_get 417 (aI (G12 100 20)) dX15_closes_414 fkX15_417 (fun _ => dsT_100 P W _) nn100 rfl rfl ?_
          refine r_iald 418 dX15_closes_417 (fun _ _ _ => dsT_123 P W _) (fun _ _ => nn123) rfl ?_
          refine r_iload_n 419 5 dX15_closes_418 rfl rfl rfl ?_
          refine r_if_eq 426 422 dX15_closes_419 rfl rfl ?_ ?_
          · refine r_aload_n 427 3 dX15_closes_426 rfl rfl rfl ?_
            refine r_get 430 (aR 125) dX15_closes_427 fkX15_47 (fun _ => dsT_100 P W _) nn100 rfl rfl ?_
            refine r_aload_n 431 3 dX15_closes_430 rfl rfl rfl ?_
            refine r_get 434 (aI (G12 100 20)) dX15_closes_431 fkX15_417 (fun _ => dsT_100 P W _) nn100 rfl rfl ?_
            refine r_iald 435 dX15_closes_434 (fun _ _ _ => dsT_125 P W _) (fun _ _ => nn125) rfl ?_
            refine r_iconst 436 1 dX15_closes_435 rfl rfl ?_
            refine r_iadd 437 dX15_closes_436 rfl ?_
            refine r_to [3, 4, 5, 1] [(0, aR 100), (1, aI x1), (2, aI x2), (5, aI (G12 124 (G12 100 20)))] rfl ?_
            exact s_Tw_closes_b437 P W x1 x2 (G12 124 (G12 100 20)) ((G12 125 (G12 100 20)) + 1) (G12 123 (G12 100 20)) G12
          · refine r_iconst 423 0 dX15_closes_422 rfl rfl ?_
            refine r_goto 437 dX15_closes_423 rfl ?_
            refine r_to [3, 4, 5, 1] [(0, aR 100), (1, aI x1), (2, aI x2), (5, aI (G12 124 (G12 100 20)))] rfl ?_
            exact s_Tw_closes_b437 P W x1 x2 (G12 124 (G12 100 20)) 0 (G12 123 (G12 100 20)) G12
      · refine r_aload_n 377 3 dX15_closes_376 rfl rfl rfl ?_
        refine r_bipush 379 7 dX15_closes_377 rfl rfl ?_
        refine r_aload_n 380 3 dX15_closes_379 rfl rfl rfl ?_
        refine r_get 383 (aR 123) dX15_closes_380 fkX15_41 (fun _ => dsT_100 P W _) nn100 rfl rfl ?_
        refine r_aload_n 384 3 dX15_closes_383 rfl rfl rfl ?_
        refine r_get 387 (aI (G12 100 20)) dX15_closes_384 fkX15_417 (fun _ => dsT_100 P W _) nn100 rfl rfl ?_
        refine r_iald 388 dX15_closes_387 (fun _ _ _ => dsT_123 P W _) (fun _ _ => nn123) rfl ?_
        refine r_iconst 389 0 dX15_closes_388 rfl rfl ?_
        refine r_iload 391 1 dX15_closes_389 rfl rfl ?_
        refine r_callvI 394 (Mc := MTw_put P W) (o := 100) (as := [aI 7, aI (G12 123 (G12 100 20)), aI 0, aI (G12 124 (G12 100 20))]) (st := []) dX15_closes_391 rfl (c_Tw_put P W 7 (G12 123 (G12 100 20)) 0 (G12 124 (G12 100 20)) G12) lkX15_423 (cmTw_put P W) rfl rfl rfl (fun _ => dsT_100 P W _) nn100 rfl (Nat.le_of_ble_eq_true rfl) (Nat.le_of_ble_eq_true rfl) (fun _ => rfl) rfl (fun z22 G23 => ?_)
        refine r_istore 396 [(6, aI z22), (5, aI (G12 124 (G12 100 20))), (4, aI s0), (0, aR 100), (1, aI x1), (2, aI x2), (3, aI x3)] dX15_closes_394 rfl rfl rfl ?_
        refine r_goto 515 dX15_closes_396 rfl ?_
        refine r_to [3, 4] [(0, aR 100), (1, aI x1)] rfl ?_
        exact s_Tw_closes_b515 P W x1 G23
    · refine r_aload_n 356 3 dX15_closes_355 rfl rfl rfl ?_
      refine r_bipush 358 15 dX15_closes_356 rfl rfl ?_
      refine r_iconst 359 0 dX15_closes_358 rfl rfl ?_
      refine r_iconst 360 0 dX15_closes_359 rfl rfl ?_
      refine r_iload 362 1 dX15_closes_360 rfl rfl ?_
      refine r_callvI 365 (Mc := MTw_put P W) (o := 100) (as := [aI 15, aI 0, aI 0, aI (G12 124 (G12 100 20))]) (st := []) dX15_closes_362 rfl (c_Tw_put P W 15 0 0 (G12 124 (G12 100 20)) G12) lkX15_423 (cmTw_put P W) rfl rfl rfl (fun _ => dsT_100 P W _) nn100 rfl (Nat.le_of_ble_eq_true rfl) (Nat.le_of_ble_eq_true rfl) (fun _ => rfl) rfl (fun z24 G25 => ?_)
      refine r_istore 367 [(6, aI z24), (5, aI (G12 124 (G12 100 20))), (4, aI s0), (0, aR 100), (1, aI x1), (2, aI x2), (3, aI x3)] dX15_closes_365 rfl rfl rfl ?_
      refine r_goto 515 dX15_closes_367 rfl ?_
      refine r_to [3, 4] [(0, aR 100), (1, aI x1)] rfl ?_
      exact s_Tw_closes_b515 P W x1 G25
  · refine r_aload_n 296 1 dX15_closes_295 rfl rfl rfl ?_
    refine r_iconst 297 1 dX15_closes_296 rfl rfl ?_
    refine r_aload_n 298 1 dX15_closes_297 rfl rfl rfl ?_
    refine r_get 301 (aI (G 100 6)) dX15_closes_298 fkX15_326 (fun _ => dsT_100 P W _) nn100 rfl rfl ?_
    refine r_callvV 304 (Mc := MTw_fail P W) (o := 100) (as := [aI 1, aI (G 100 6)]) (st := []) dX15_closes_301 rfl (c_Tw_fail P W 1 (G 100 6) G) lkX15_390 (cmTw_fail P W) rfl rfl rfl (fun _ => dsT_100 P W _) nn100 rfl (Nat.le_of_ble_eq_true rfl) (Nat.le_of_ble_eq_true rfl) (fun _ => rfl) rfl (fun z26 G27 => ?_)
    refine r_iconst 305 0 dX15_closes_304 rfl rfl ?_
    exact r_zreturn dX15_closes_305 rfl
theorem s_Tw_closes_b268 (P W : Int) (x1 : Int) (x2 : Int) (x3 : Int) (G : St) : SS (MTw_closes P W) some 268 [(0, aR 100), (1, aI x1), (2, aI x2), (3, aI x3)] [] G (Tw_closes_b268 x1 x2 x3 G) := by
  refine r_aload_n 269 0 dX15_closes_268 rfl rfl rfl ?_
  refine r_bipush 271 93 dX15_closes_269 rfl rfl ?_
  refine r_callvI 274 (Mc := MTw_isSign P W) (o := 100) (as := [aI 93]) (st := []) dX15_closes_271 rfl (c_Tw_isSign P W 93 G) lkX15_408 (cmTw_isSign P W) rfl rfl rfl (fun _ => dsT_100 P W _) nn100 rfl (Nat.le_of_ble_eq_true rfl) (Nat.le_of_ble_eq_true rfl) (fun _ => rfl) rfl (fun z8 G9 => ?_)
  refine SS.phi (fun VV_ => Tw_closes_b288 x1 x2 x3 VV_ G9) ?_
  refine r_if_eq 287 277 dX15_closes_274 rfl rfl ?_ ?_
  · refine r_iconst 288 0 dX15_closes_287 rfl rfl ?_
    exact s_Tw_closes_b288 P W x1 x2 x3 0 G9
  · refine r_iload_n 278 3 dX15_closes_277 rfl rfl rfl ?_
    refine r_bipush 280 6 dX15_closes_278 rfl rfl ?_
    refine SS.phi (fun VV_ => Tw_closes_b288 x1 x2 x3 VV_ G9) ?_
    refine r_icmp_ne 287 283 dX15_closes_280 rfl rfl ?_ ?_
    · refine r_iconst 288 0 dX15_closes_287 rfl rfl ?_
      exact s_Tw_closes_b288 P W x1 x2 x3 0 G9
    · refine r_iconst 284 1 dX15_closes_283 rfl rfl ?_
      refine r_goto 288 dX15_closes_284 rfl ?_
      exact s_Tw_closes_b288 P W x1 x2 x3 1 G9
theorem s_Tw_closes_b221 (P W : Int) (x1 : Int) (x2 : Int) (x3 : Int) (G : St) : SS (MTw_closes P W) some 221 [(0, aR 100), (1, aI x1), (2, aI x2), (3, aI x3)] [] G (Tw_closes_b221 x1 x2 x3 G) := by
  refine r_aload_n 222 0 dX15_closes_221 rfl rfl rfl ?_
  refine r_bipush 224 41 dX15_closes_222 rfl rfl ?_
  refine r_callvI 227 (Mc := MTw_isSign P W) (o := 100) (as := [aI 41]) (st := []) dX15_closes_224 rfl (c_Tw_isSign P W 41 G) lkX15_408 (cmTw_isSign P W) rfl rfl rfl (fun _ => dsT_100 P W _) nn100 rfl (Nat.le_of_ble_eq_true rfl) (Nat.le_of_ble_eq_true rfl) (fun _ => rfl) rfl (fun z6 G7 => ?_)
  refine r_if_eq 268 230 dX15_closes_227 rfl rfl ?_ ?_
  · exact s_Tw_closes_b268 P W x1 x2 x3 G7
  · refine r_iload_n 231 3 dX15_closes_230 rfl rfl rfl ?_
    refine r_iconst 232 5 dX15_closes_231 rfl rfl ?_
    refine r_icmp_eq 283 235 dX15_closes_232 rfl rfl ?_ ?_
    · refine r_iconst 284 1 dX15_closes_283 rfl rfl ?_
      refine r_goto 288 dX15_closes_284 rfl ?_
      exact s_Tw_closes_b288 P W x1 x2 x3 1 G7
    · refine r_iload_n 236 3 dX15_closes_235 rfl rfl rfl ?_
      refine r_bipush 238 7 dX15_closes_236 rfl rfl ?_
      refine r_icmp_eq 283 241 dX15_closes_238 rfl rfl ?_ ?_
      · refine r_iconst 284 1 dX15_closes_283 rfl rfl ?_
        refine r_goto 288 dX15_closes_284 rfl ?_
        exact s_Tw_closes_b288 P W x1 x2 x3 1 G7
      · refine r_iload_n 242 3 dX15_closes_241 rfl rfl rfl ?_
        refine r_bipush 244 8 dX15_closes_242 rfl rfl ?_
        refine r_icmp_eq 283 247 dX15_closes_244 rfl rfl ?_ ?_
        · refine r_iconst 284 1 dX15_closes_283 rfl rfl ?_
          refine r_goto 288 dX15_closes_284 rfl ?_
          exact s_Tw_closes_b288 P W x1 x2 x3 1 G7
        · refine r_iload_n 248 3 dX15_closes_247 rfl rfl rfl ?_
          refine r_bipush 250 9 dX15_closes_248 rfl rfl ?_
          refine r_icmp_ne 268 253 dX15_closes_250 rfl rfl ?_ ?_
          · exact s_Tw_closes_b268 P W x1 x2 x3 G7
          · refine r_aload_n 254 0 dX15_closes_253 rfl rfl rfl ?_
            refine r_get 257 (aR 125) dX15_closes_254 fkX15_47 (fun _ => dsT_100 P W _) nn100 rfl rfl ?_
            refine r_aload_n 258 0 dX15_closes_257 rfl rfl rfl ?_
            refine r_get 261 (aI (G7 100 20)) dX15_closes_258 fkX15_417 (fun _ => dsT_100 P W _) nn100 rfl rfl ?_
            refine r_iconst 262 1 dX15_closes_261 rfl rfl ?_
            refine r_isub 263 dX15_closes_262 rfl ?_
            refine r_iald 264 dX15_closes_263 (fun _ _ _ => dsT_125 P W _) (fun _ _ => nn125) rfl ?_
            refine r_iconst 265 1 dX15_closes_264 rfl rfl ?_
            refine r_icmp_eq 283 268 dX15_closes_265 rfl rfl ?_ ?_
            · refine r_iconst 284 1 dX15_closes_283 rfl rfl ?_
              refine r_goto 288 dX15_closes_284 rfl ?_
              exact s_Tw_closes_b288 P W x1 x2 x3 1 G7
            · exact s_Tw_closes_b268 P W x1 x2 x3 G7
theorem s_Tw_closes_b179 (P W : Int) (s0 : Int) (s1 : Int) (G : St) : SS (MTw_closes P W) some 179 [(0, aR 100)] [aI s0, aI s1, aR 100] G (Tw_closes_b179 s0 s1 G) := by
  refine r_iconst 180 0 dX15_closes_179 rfl rfl ?_
  refine r_aload_n 181 0 dX15_closes_180 rfl rfl rfl ?_
  refine r_get 184 (aI (G 100 6)) dX15_closes_181 fkX15_326 (fun _ => dsT_100 P W _) nn100 rfl rfl ?_
  refine r_callvI 187 (Mc := MTw_put P W) (o := 100) (as := [aI s1, aI s0, aI 0, aI (G 100 6)]) (st := []) dX15_closes_184 rfl (c_Tw_put P W s1 s0 0 (G 100 6) G) lkX15_423 (cmTw_put P W) rfl rfl rfl (fun _ => dsT_100 P W _) nn100 rfl (Nat.le_of_ble_eq_true rfl) (Nat.le_of_ble_eq_true rfl) (fun _ => rfl) rfl (fun z28 G29 => ?_)
  refine r_istore 189 [(4, aI z28), (0, aR 100)] dX15_closes_187 rfl rfl rfl ?_
  refine r_aload_n 190 1 dX15_closes_189 rfl rfl rfl ?_
  refine r_get 193 (aR 125) dX15_closes_190 fkX15_47 (fun _ => dsT_100 P W _) nn100 rfl rfl ?_
  refine r_aload_n 194 1 dX15_closes_193 rfl rfl rfl ?_
  refine r_get 197 (aI (G29 100 20)) dX15_closes_194 fkX15_417 (fun _ => dsT_100 P W _) nn100 rfl rfl ?_
  refine r_iconst 198 1 dX15_closes_197 rfl rfl ?_
  refine r_isub 199 dX15_closes_198 rfl ?_
  refine r_dup2 200 dX15_closes_199 rfl rfl rfl ?_
  refine r_iald 201 dX15_closes_200 (fun _ _ _ => dsT_125 P W _) (fun _ _ => nn125) rfl ?_
  refine r_iconst 202 1 dX15_closes_201 rfl rfl ?_
  refine r_iadd 203 dX15_closes_202 rfl ?_
  refine r_iast 204 dX15_closes_203 (fun _ _ _ => dsT_125 P W _) (fun _ _ => nn125) rfl ?_
  refine ss_tk (fun G30 => ?_)
  refine r_aload_n 205 1 dX15_closes_204 rfl rfl rfl ?_
  refine r_dup 206 dX15_closes_205 rfl rfl ?_
  refine r_get 209 (aI (G30 100 6)) dX15_closes_206 fkX15_326 (fun _ => dsT_100 P W _) nn100 rfl rfl ?_
  refine r_iconst 210 1 dX15_closes_209 rfl rfl ?_
  refine r_iadd 211 dX15_closes_210 rfl ?_
  refine r_putI 214 dX15_closes_211 fkX15_326 (fun _ => dsT_100 P W _) nn100 rfl rfl ?_
  refine ss_tk (fun G31 => ?_)
  refine r_aload_n 215 1 dX15_closes_214 rfl rfl rfl ?_
  refine r_iconst 216 1 dX15_closes_215 rfl rfl ?_
  refine r_putZ 219 dX15_closes_216 fkX15_463 (fun _ => dsT_100 P W _) nn100 rfl rfl ?_
  refine ss_tk (fun G32 => ?_)
  refine r_iconst 220 1 dX15_closes_219 rfl rfl ?_
  exact r_zreturn dX15_closes_220 rfl
theorem s_Tw_closes_b155 (P W : Int) (x3 : Int) (G : St) : SS (MTw_closes P W) some 155 [(0, aR 100), (3, aI x3)] [] G (Tw_closes_b155 x3 G) := by
  refine r_aload_n 156 0 dX15_closes_155 rfl rfl rfl ?_
  refine r_bipush 158 16 dX15_closes_156 rfl rfl ?_
  refine r_iload_n 159 1 dX15_closes_158 rfl rfl rfl ?_
  refine r_bipush 161 7 dX15_closes_159 rfl rfl ?_
  refine r_icmp_ne 178 164 dX15_closes_161 rfl rfl ?_ ?_
  · refine r_iconst 179 (-1) dX15_closes_178 rfl rfl ?_
    refine r_to [0] [(0, aR 100)] rfl ?_
    exact s_Tw_closes_b179 P W (-1) 16 G
  · refine r_aload_n 165 0 dX15_closes_164 rfl rfl rfl ?_
    refine r_get 168 (aR 123) dX15_closes_165 fkX15_41 (fun _ => dsT_100 P W _) nn100 rfl rfl ?_
    refine r_aload_n 169 0 dX15_closes_168 rfl rfl rfl ?_
    refine r_get 172 (aI (G 100 20)) dX15_closes_169 fkX15_417 (fun _ => dsT_100 P W _) nn100 rfl rfl ?_
    refine r_iconst 173 1 dX15_closes_172 rfl rfl ?_
    refine r_isub 174 dX15_closes_173 rfl ?_
    refine r_iald 175 dX15_closes_174 (fun _ _ _ => dsT_123 P W _) (fun _ _ => nn123) rfl ?_
    refine r_goto 179 dX15_closes_175 rfl ?_
    refine r_to [0] [(0, aR 100)] rfl ?_
    exact s_Tw_closes_b179 P W (G 123 ((G 100 20) - 1)) 16 G
theorem s_Tw_closes_b135 (P W : Int) (x1 : Int) (x2 : Int) (x3 : Int) (G : St) : SS (MTw_closes P W) some 135 [(0, aR 100), (1, aI x1), (2, aI x2), (3, aI x3)] [] G (Tw_closes_b135 x1 x2 x3 G) := by
  refine r_iload_n 136 3 dX15_closes_135 rfl rfl rfl ?_
  refine r_bipush 138 9 dX15_closes_136 rfl rfl ?_
  refine r_icmp_ne 221 141 dX15_closes_138 rfl rfl ?_ ?_
  · exact s_Tw_closes_b221 P W x1 x2 x3 G
  · refine r_aload_n 142 0 dX15_closes_141 rfl rfl rfl ?_
    refine r_get 145 (aR 125) dX15_closes_142 fkX15_47 (fun _ => dsT_100 P W _) nn100 rfl rfl ?_
    refine r_aload_n 146 0 dX15_closes_145 rfl rfl rfl ?_
    refine r_get 149 (aI (G 100 20)) dX15_closes_146 fkX15_417 (fun _ => dsT_100 P W _) nn100 rfl rfl ?_
    refine r_iconst 150 1 dX15_closes_149 rfl rfl ?_
    refine r_isub 151 dX15_closes_150 rfl ?_
    refine r_iald 152 dX15_closes_151 (fun _ _ _ => dsT_125 P W _) (fun _ _ => nn125) rfl ?_
    refine r_if_ne 221 155 dX15_closes_152 rfl rfl ?_ ?_
    · exact s_Tw_closes_b221 P W x1 x2 x3 G
    · refine r_to [0, 3] [(0, aR 100), (3, aI x3)] rfl ?_
      exact s_Tw_closes_b155 P W x3 G
theorem s_Tw_closes_b116 (P W : Int) (x1 : Int) (x2 : Int) (x3 : Int) (G : St) : SS (MTw_closes P W) some 116 [(0, aR 100), (1, aI x1), (2, aI x2), (3, aI x3)] [] G (Tw_closes_b116 x1 x2 x3 G) := by
  refine r_aload_n 117 0 dX15_closes_116 rfl rfl rfl ?_
  refine r_bipush 119 44 dX15_closes_117 rfl rfl ?_
  refine r_callvI 122 (Mc := MTw_isSign P W) (o := 100) (as := [aI 44]) (st := []) dX15_closes_119 rfl (c_Tw_isSign P W 44 G) lkX15_408 (cmTw_isSign P W) rfl rfl rfl (fun _ => dsT_100 P W _) nn100 rfl (Nat.le_of_ble_eq_true rfl) (Nat.le_of_ble_eq_true rfl) (fun _ => rfl) rfl (fun z4 G5 => ?_)
  refine r_if_eq 221 125 dX15_closes_122 rfl rfl ?_ ?_
  · exact s_Tw_closes_b221 P W x1 x2 x3 G5
  · refine r_iload_n 126 3 dX15_closes_125 rfl rfl rfl ?_
    refine r_bipush 128 7 dX15_closes_126 rfl rfl ?_
    refine r_icmp_ne 135 131 dX15_closes_128 rfl rfl ?_ ?_
    · exact s_Tw_closes_b135 P W x1 x2 x3 G5
    · refine r_iload_n 132 2 dX15_closes_131 rfl rfl rfl ?_
      refine r_if_eq 155 135 dX15_closes_132 rfl rfl ?_ ?_
      · refine r_to [0, 3] [(0, aR 100), (3, aI x3)] rfl ?_
        exact s_Tw_closes_b155 P W x3 G5
      · exact s_Tw_closes_b135 P W x1 x2 x3 G5
theorem s_Tw_closes_b51 (P W : Int) (x1 : Int) (x2 : Int) (G : St) : SS (MTw_closes P W) some 51 [(0, aR 100), (1, aI x1), (2, aI x2)] [] G (Tw_closes_b51 x1 x2 G) := by
  refine r_aload_n 52 0 dX15_closes_51 rfl rfl rfl ?_
  refine r_get 55 (aI (G 100 20)) dX15_closes_52 fkX15_417 (fun _ => dsT_100 P W _) nn100 rfl rfl ?_
  refine r_iload_n 56 1 dX15_closes_55 rfl rfl rfl ?_
  refine r_icmp_ne 61 59 dX15_closes_56 rfl rfl ?_ ?_
  · refine r_aload_n 62 0 dX15_closes_61 rfl rfl rfl ?_
    refine r_get 65 (aR 122) dX15_closes_62 fkX15_38 (fun _ => dsT_100 P W _) nn100 rfl rfl ?_
    refine r_aload_n 66 0 dX15_closes_65 rfl rfl rfl ?_
    refine r_get 69 (aI (G 100 20)) dX15_closes_66 fkX15_417 (fun _ => dsT_100 P W _) nn100 rfl rfl ?_
    refine r_iconst 70 1 dX15_closes_69 rfl rfl ?_
    refine r_isub 71 dX15_closes_70 rfl ?_
    refine r_iald 72 dX15_closes_71 (fun _ _ _ => dsT_122 P W _) (fun _ _ => nn122) rfl ?_
    refine r_istore_n 73 [(3, aI (G 122 ((G 100 20) - 1))), (0, aR 100), (1, aI x1), (2, aI x2)] dX15_closes_72 rfl rfl rfl rfl ?_
    refine r_aload_n 74 1 dX15_closes_73 rfl rfl rfl ?_
    refine r_bipush 76 58 dX15_closes_74 rfl rfl ?_
    refine r_callvI 79 (Mc := MTw_isSign P W) (o := 100) (as := [aI 58]) (st := []) dX15_closes_76 rfl (c_Tw_isSign P W 58 G) lkX15_408 (cmTw_isSign P W) rfl rfl rfl (fun _ => dsT_100 P W _) nn100 rfl (Nat.le_of_ble_eq_true rfl) (Nat.le_of_ble_eq_true rfl) (fun _ => rfl) rfl (fun z2 G3 => ?_)
    refine r_if_eq 116 82 dX15_closes_79 rfl rfl ?_ ?_
    · refine r_to [1, 2, 3, 0] [(0, aR 100), (1, aI x1), (2, aI x2), (3, aI (G 122 ((G 100 20) - 1)))] rfl ?_
      exact s_Tw_closes_b116 P W x1 x2 (G 122 ((G 100 20) - 1)) G3
    · refine r_iload_n 83 0 dX15_closes_82 rfl rfl rfl ?_
      refine r_iconst 84 3 dX15_closes_83 rfl rfl ?_
      refine r_icmp_ne 116 87 dX15_closes_84 rfl rfl ?_ ?_
      · refine r_to [1, 2, 3, 0] [(0, aR 100), (1, aI x1), (2, aI x2), (3, aI (G 122 ((G 100 20) - 1)))] rfl ?_
        exact s_Tw_closes_b116 P W x1 x2 (G 122 ((G 100 20) - 1)) G3
      · refine r_aload_n 88 1 dX15_closes_87 rfl rfl rfl ?_
        refine r_get 91 (aR 122) dX15_closes_88 fkX15_38 (fun _ => dsT_100 P W _) nn100 rfl rfl ?_
        refine r_aload_n 92 1 dX15_closes_91 rfl rfl rfl ?_
        refine r_get 95 (aI (G3 100 20)) dX15_closes_92 fkX15_417 (fun _ => dsT_100 P W _) nn100 rfl rfl ?_
        refine r_iconst 96 1 dX15_closes_95 rfl rfl ?_
        refine r_isub 97 dX15_closes_96 rfl ?_
        refine r_iconst 98 4 dX15_closes_97 rfl rfl ?_
        refine r_iast 99 dX15_closes_98 (fun _ _ _ => dsT_122 P W _) (fun _ _ => nn122) rfl ?_
        refine ss_tk (fun G33 => ?_)
        refine r_aload_n 100 1 dX15_closes_99 rfl rfl rfl ?_
        refine r_dup 101 dX15_closes_100 rfl rfl ?_
        refine r_get 104 (aI (G33 100 6)) dX15_closes_101 fkX15_326 (fun _ => dsT_100 P W _) nn100 rfl rfl ?_
        refine r_iconst 105 1 dX15_closes_104 rfl rfl ?_
        refine r_iadd 106 dX15_closes_105 rfl ?_
        refine r_putI 109 dX15_closes_106 fkX15_326 (fun _ => dsT_100 P W _) nn100 rfl rfl ?_
        refine ss_tk (fun G34 => ?_)
        refine r_aload_n 110 1 dX15_closes_109 rfl rfl rfl ?_
        refine r_iconst 111 1 dX15_closes_110 rfl rfl ?_
        refine r_putZ 114 dX15_closes_111 fkX15_463 (fun _ => dsT_100 P W _) nn100 rfl rfl ?_
        refine ss_tk (fun G35 => ?_)
        refine r_iconst 115 1 dX15_closes_114 rfl rfl ?_
        exact r_zreturn dX15_closes_115 rfl
  · refine r_iconst 60 0 dX15_closes_59 rfl rfl ?_
    exact r_zreturn dX15_closes_60 rfl
theorem s_Tw_closes_b41 (P W : Int) (x1 : Int) (s0 : Int) (G : St) : SS (MTw_closes P W) some 41 [(0, aR 100), (1, aI x1)] [aI s0] G (Tw_closes_b41 x1 s0 G) := by
  refine r_istore_n 42 [(2, aI s0), (0, aR 100), (1, aI x1)] dX15_closes_41 rfl rfl rfl rfl ?_
  refine r_iload_n 43 0 dX15_closes_42 rfl rfl rfl ?_
  refine r_if_ne 51 46 dX15_closes_43 rfl rfl ?_ ?_
  · refine r_to [1, 2, 0] [(0, aR 100), (1, aI x1), (2, aI s0)] rfl ?_
    exact s_Tw_closes_b51 P W x1 s0 G
  · refine r_aload_n 47 1 dX15_closes_46 rfl rfl rfl ?_
    refine r_iload_n 48 2 dX15_closes_47 rfl rfl rfl ?_
    refine r_callvV 51 (Mc := MTw_reduceAll P W) (o := 100) (as := [aI x1]) (st := []) dX15_closes_48 rfl (c_Tw_reduceAll P W x1 G) lkX15_467 (cmTw_reduceAll P W) rfl rfl rfl (fun _ => dsT_100 P W _) nn100 rfl (Nat.le_of_ble_eq_true rfl) (Nat.le_of_ble_eq_true rfl) (fun _ => rfl) rfl (fun z36 G37 => ?_)
    refine r_to [1, 2, 0] [(0, aR 100), (1, aI x1), (2, aI s0)] rfl ?_
    exact s_Tw_closes_b51 P W x1 s0 G37
theorem s_Tw_closes (P W : Int) (x1 : Int) (G : St) : SS (MTw_closes P W) some 0 [(0, aR 100), (1, aI x1)] [] G (Tw_closes x1 G) := by
  refine r_aload_n 1 0 dX15_closes_0 rfl rfl rfl ?_
  refine r_iconst 2 0 dX15_closes_1 rfl rfl ?_
  refine r_putZ 5 dX15_closes_2 fkX15_463 (fun _ => dsT_100 P W _) nn100 rfl rfl ?_
  refine ss_tk (fun G1 => ?_)
  refine r_aload_n 6 0 dX15_closes_5 rfl rfl rfl ?_
  refine r_get 9 (aI (G1 100 20)) dX15_closes_6 fkX15_417 (fun _ => dsT_100 P W _) nn100 rfl rfl ?_
  refine r_iload_n 10 1 dX15_closes_9 rfl rfl rfl ?_
  refine r_icmp_le 40 13 dX15_closes_10 rfl rfl ?_ ?_
  · refine r_iconst 41 0 dX15_closes_40 rfl rfl ?_
    exact s_Tw_closes_b41 P W x1 0 G1
  · refine r_aload_n 14 0 dX15_closes_13 rfl rfl rfl ?_
    refine r_get 17 (aR 122) dX15_closes_14 fkX15_38 (fun _ => dsT_100 P W _) nn100 rfl rfl ?_
    refine r_aload_n 18 0 dX15_closes_17 rfl rfl rfl ?_
    refine r_get 21 (aI (G1 100 20)) dX15_closes_18 fkX15_417 (fun _ => dsT_100 P W _) nn100 rfl rfl ?_
    refine r_iconst 22 1 dX15_closes_21 rfl rfl ?_
    refine r_isub 23 dX15_closes_22 rfl ?_
    refine r_iald 24 dX15_closes_23 (fun _ _ _ => dsT_122 P W _) (fun _ _ => nn122) rfl ?_
    refine r_bipush 26 7 dX15_closes_24 rfl rfl ?_
    refine r_icmp_ne 40 29 dX15_closes_26 rfl rfl ?_ ?_
    · refine r_iconst 41 0 dX15_closes_40 rfl rfl ?_
      exact s_Tw_closes_b41 P W x1 0 G1
    · refine r_aload_n 30 0 dX15_closes_29 rfl rfl rfl ?_
      refine r_callvI 33 (Mc := MTw_isFresh P W) (o := 100) (as := []) (st := []) dX15_closes_30 rfl (c_Tw_isFresh P W G1) lkX15_457 (cmTw_isFresh P W) rfl rfl rfl (fun _ => dsT_100 P W _) nn100 rfl (Nat.le_of_ble_eq_true rfl) (Nat.le_of_ble_eq_true rfl) (fun _ => rfl) rfl (fun z38 G39 => ?_)
      refine SS.phi (fun VV_ => Tw_closes_b41 x1 VV_ G39) ?_
      refine r_if_eq 40 36 dX15_closes_33 rfl rfl ?_ ?_
      · refine r_iconst 41 0 dX15_closes_40 rfl rfl ?_
        exact s_Tw_closes_b41 P W x1 0 G39
      · refine r_iconst 37 1 dX15_closes_36 rfl rfl ?_
        refine r_goto 41 dX15_closes_37 rfl ?_
        exact s_Tw_closes_b41 P W x1 1 G39
theorem c_Tw_closes (P W : Int) (x1 : Int) (G : St) : MG (MTw_closes P W) [aR 100, aI x1] G (Tw_closes x1 G) := MG.of plX15 (Nat.le_of_ble_eq_true rfl) (s_Tw_closes P W x1 G)
theorem s_Tw_gap_b81 (P W : Int) (X2 : Int × St → Option (Int × St)) (hX2 : ∀ s, So (MTw_gap P W) 2 [(0, aR 100), (1, aI (s.1))] [] s.2 (X2 s)) (x1 : Int) (X48 : St → Option (Int × St)) (hX48 : ∀ s, So (MTw_gap P W) 48 [(0, aR 100), (1, aI x1)] [] s (X48 s)) (s0 : Int) (G : St) : SS (MTw_gap P W) (lk X48 (lk X2 some)) 81 [(0, aR 100), (1, aI x1)] [aI s0, aR 105] G (Tw_gap_b81 x1 s0 G) := by
  refine r_iald 82 dX15_gap_81 (fun _ _ _ => dsT_105 P W _) (fun _ _ => nn105) rfl ?_
  refine r_bipush 84 10 dX15_gap_82 rfl rfl ?_
  refine r_icmp_eq 114 87 dX15_gap_84 rfl rfl ?_ ?_
  · refine SS.ex ?_
    refine r_goto 2 dX15_gap_114 rfl ?_
    exact SS.back (hX2 (x1, G))
  · refine r_aload_n 88 0 dX15_gap_87 rfl rfl rfl ?_
    refine r_dup 89 dX15_gap_88 rfl rfl ?_
    refine r_get 92 (aI (G 100 6)) dX15_gap_89 fkX15_326 (fun _ => dsT_100 P W _) nn100 rfl rfl ?_
    refine r_iconst 93 1 dX15_gap_92 rfl rfl ?_
    refine r_iadd 94 dX15_gap_93 rfl ?_
    refine r_putI 97 dX15_gap_94 fkX15_326 (fun _ => dsT_100 P W _) nn100 rfl rfl ?_
    refine ss_tk (fun G4 => ?_)
    refine r_goto 48 dX15_gap_97 rfl ?_
    exact SS.back (hX48 (G4))
theorem s_Tw_gap_s48 (P W : Int) (X2 : Int × St → Option (Int × St)) (hX2 : ∀ s, So (MTw_gap P W) 2 [(0, aR 100), (1, aI (s.1))] [] s.2 (X2 s)) (x1 : Int) (X48 : St → Option (Int × St)) (hX48 : ∀ s, So (MTw_gap P W) 48 [(0, aR 100), (1, aI x1)] [] s (X48 s)) (G : St) : SS (MTw_gap P W) (lk X48 (lk X2 some)) 48 [(0, aR 100), (1, aI x1)] [] G (Tw_gap_s48 x1 G) := by
  refine r_aload_n 49 0 dX15_gap_48 rfl rfl rfl ?_
  refine r_get 52 (aI (G 100 6)) dX15_gap_49 fkX15_326 (fun _ => dsT_100 P W _) nn100 rfl rfl ?_
  refine r_aload_n 53 0 dX15_gap_52 rfl rfl rfl ?_
  refine r_get 56 (aI (G 100 5)) dX15_gap_53 fkX15_320 (fun _ => dsT_100 P W _) nn100 rfl rfl ?_
  refine r_icmp_ge 114 59 dX15_gap_56 rfl rfl ?_ ?_
  · refine SS.ex ?_
    refine r_goto 2 dX15_gap_114 rfl ?_
    exact SS.back (hX2 (x1, G))
  · refine r_aload_n 60 0 dX15_gap_59 rfl rfl rfl ?_
    refine r_get 63 (aR 105) dX15_gap_60 fkX15_13 (fun _ => dsT_100 P W _) nn100 rfl rfl ?_
    refine r_aload_n 64 0 dX15_gap_63 rfl rfl rfl ?_
    refine r_get 67 (aI (G 100 6)) dX15_gap_64 fkX15_326 (fun _ => dsT_100 P W _) nn100 rfl rfl ?_
    refine r_sipush 70 4000 dX15_gap_67 rfl rfl ?_
    refine SS.phi (fun VV_ => Tw_gap_b81 x1 VV_ G) ?_
    refine r_icmp_ge 80 73 dX15_gap_70 rfl rfl ?_ ?_
    · refine r_iconst 81 0 dX15_gap_80 rfl rfl ?_
      exact s_Tw_gap_b81 P W X2 hX2 x1 X48 hX48 0 G
    · refine r_aload_n 74 0 dX15_gap_73 rfl rfl rfl ?_
      refine r_get 77 (aI (G 100 6)) dX15_gap_74 fkX15_326 (fun _ => dsT_100 P W _) nn100 rfl rfl ?_
      refine r_goto 81 dX15_gap_77 rfl ?_
      exact s_Tw_gap_b81 P W X2 hX2 x1 X48 hX48 (G 100 6) G
theorem sl_Tw_gap_48 (P W : Int) (X2 : Int × St → Option (Int × St)) (hX2 : ∀ s, So (MTw_gap P W) 2 [(0, aR 100), (1, aI (s.1))] [] s.2 (X2 s)) (x1 : Int) (G : St) : SS (MTw_gap P W) (lk X2 some) 48 [(0, aR 100), (1, aI x1)] [] G (Tw_gap_l48 x1 G) := by
  exact SS.loop (σ := St) (fun s => [(0, aR 100), (1, aI x1)]) (fun s => s) (fun s => Tw_gap_s48 x1 s) (fun X48 hX48 s => s_Tw_gap_s48 P W X2 hX2 x1  X48 hX48 s) (G)
theorem s_Tw_gap_b41 (P W : Int) (X2 : Int × St → Option (Int × St)) (hX2 : ∀ s, So (MTw_gap P W) 2 [(0, aR 100), (1, aI (s.1))] [] s.2 (X2 s)) (x2 : Int) (s0 : Int) (G : St) : SS (MTw_gap P W) (lk X2 some) 41 [(0, aR 100), (2, aI x2)] [aI s0] G (Tw_gap_b41 x2 s0 G) := by
  refine r_istore_n 42 [(1, aI s0), (0, aR 100), (2, aI x2)] dX15_gap_41 rfl rfl rfl rfl ?_
  refine r_iload_n 43 2 dX15_gap_42 rfl rfl rfl ?_
  refine r_bipush 45 35 dX15_gap_43 rfl rfl ?_
  refine r_icmp_ne 100 48 dX15_gap_45 rfl rfl ?_ ?_
  · refine r_iload_n 101 0 dX15_gap_100 rfl rfl rfl ?_
    refine r_if_eq 114 104 dX15_gap_101 rfl rfl ?_ ?_
    · refine r_goto 2 dX15_gap_114 rfl ?_
      refine r_to [1, 0] [(0, aR 100), (1, aI s0)] rfl ?_
      exact SS.back (hX2 (s0, G))
    · refine r_aload_n 105 1 dX15_gap_104 rfl rfl rfl ?_
      refine r_dup 106 dX15_gap_105 rfl rfl ?_
      refine r_get 109 (aI (G 100 6)) dX15_gap_106 fkX15_326 (fun _ => dsT_100 P W _) nn100 rfl rfl ?_
      refine r_iconst 110 1 dX15_gap_109 rfl rfl ?_
      refine r_iadd 111 dX15_gap_110 rfl ?_
      refine r_putI 114 dX15_gap_111 fkX15_326 (fun _ => dsT_100 P W _) nn100 rfl rfl ?_
      refine ss_tk (fun G3 => ?_)
      refine r_goto 2 dX15_gap_114 rfl ?_
      refine r_to [1, 0] [(0, aR 100), (1, aI s0)] rfl ?_
      exact SS.back (hX2 (s0, G3))
  · refine r_to [1, 0] [(0, aR 100), (1, aI s0)] rfl ?_
    exact sl_Tw_gap_48 P W X2 hX2 s0 G
theorem s_Tw_gap_s2 (P W : Int) (X2 : Int × St → Option (Int × St)) (hX2 : ∀ s, So (MTw_gap P W) 2 [(0, aR 100), (1, aI (s.1))] [] s.2 (X2 s)) (x1 : Int) (G : St) : SS (MTw_gap P W) (lk X2 some) 2 [(0, aR 100), (1, aI x1)] [] G (Tw_gap_s2 x1 G) := by
  refine r_iload_n 3 1 dX15_gap_2 rfl rfl rfl ?_
  refine r_if_eq 117 6 dX15_gap_3 rfl rfl ?_ ?_
  · refine SS.ex ?_
    exact r_return dX15_gap_117 rfl
  · refine r_aload_n 7 0 dX15_gap_6 rfl rfl rfl ?_
    refine r_iconst 8 0 dX15_gap_7 rfl rfl ?_
    refine r_callvI 11 (Mc := MTw_look0 P W) (o := 100) (as := [aI 0]) (st := []) dX15_gap_8 rfl (c_Tw_look0 P W 0 G) lkX15_329 (cmTw_look0 P W) rfl rfl rfl (fun _ => dsT_100 P W _) nn100 rfl (Nat.le_of_ble_eq_true rfl) (Nat.le_of_ble_eq_true rfl) (fun _ => rfl) rfl (fun z1 G2 => ?_)
    refine r_istore_n 12 [(2, aI z1), (0, aR 100), (1, aI x1)] dX15_gap_11 rfl rfl rfl rfl ?_
    refine r_iload_n 13 0 dX15_gap_12 rfl rfl rfl ?_
    refine r_bipush 15 32 dX15_gap_13 rfl rfl ?_
    refine SS.phi (fun VV_ => Tw_gap_b41 z1 VV_ G2) ?_
    refine r_icmp_eq 36 18 dX15_gap_15 rfl rfl ?_ ?_
    · refine r_iconst 37 1 dX15_gap_36 rfl rfl ?_
      refine r_goto 41 dX15_gap_37 rfl ?_
      refine r_to [1, 0] [(0, aR 100), (2, aI z1)] rfl ?_
      exact s_Tw_gap_b41 P W X2 hX2 z1 1 G2
    · refine r_iload_n 19 0 dX15_gap_18 rfl rfl rfl ?_
      refine r_bipush 21 9 dX15_gap_19 rfl rfl ?_
      refine SS.phi (fun VV_ => Tw_gap_b41 z1 VV_ G2) ?_
      refine r_icmp_eq 36 24 dX15_gap_21 rfl rfl ?_ ?_
      · refine r_iconst 37 1 dX15_gap_36 rfl rfl ?_
        refine r_goto 41 dX15_gap_37 rfl ?_
        refine r_to [1, 0] [(0, aR 100), (2, aI z1)] rfl ?_
        exact s_Tw_gap_b41 P W X2 hX2 z1 1 G2
      · refine r_iload_n 25 0 dX15_gap_24 rfl rfl rfl ?_
        refine r_bipush 27 10 dX15_gap_25 rfl rfl ?_
        refine SS.phi (fun VV_ => Tw_gap_b41 z1 VV_ G2) ?_
        refine r_icmp_eq 36 30 dX15_gap_27 rfl rfl ?_ ?_
        · refine r_iconst 37 1 dX15_gap_36 rfl rfl ?_
          refine r_goto 41 dX15_gap_37 rfl ?_
          refine r_to [1, 0] [(0, aR 100), (2, aI z1)] rfl ?_
          exact s_Tw_gap_b41 P W X2 hX2 z1 1 G2
        · refine r_iload_n 31 0 dX15_gap_30 rfl rfl rfl ?_
          refine r_bipush 33 35 dX15_gap_31 rfl rfl ?_
          refine SS.phi (fun VV_ => Tw_gap_b41 z1 VV_ G2) ?_
          refine r_icmp_ne 40 36 dX15_gap_33 rfl rfl ?_ ?_
          · refine r_iconst 41 0 dX15_gap_40 rfl rfl ?_
            refine r_to [1, 0] [(0, aR 100), (2, aI z1)] rfl ?_
            exact s_Tw_gap_b41 P W X2 hX2 z1 0 G2
          · refine r_iconst 37 1 dX15_gap_36 rfl rfl ?_
            refine r_goto 41 dX15_gap_37 rfl ?_
            refine r_to [1, 0] [(0, aR 100), (2, aI z1)] rfl ?_
            exact s_Tw_gap_b41 P W X2 hX2 z1 1 G2
theorem sl_Tw_gap_2 (P W : Int) (x1 : Int) (G : St) : SS (MTw_gap P W) some 2 [(0, aR 100), (1, aI x1)] [] G (Tw_gap_l2 x1 G) := by
  exact SS.loop (σ := Int × St) (fun s => [(0, aR 100), (1, aI (s.1))]) (fun s => s.2) (fun s => Tw_gap_s2 s.1 s.2) (fun X2 hX2 s => s_Tw_gap_s2 P W   X2 hX2 s.1 s.2) (x1, G)
theorem s_Tw_gap (P W : Int) (G : St) : SS (MTw_gap P W) some 0 [(0, aR 100)] [] G (Tw_gap G) := by
  refine r_iconst 1 1 dX15_gap_0 rfl rfl ?_
  refine r_istore_n 2 [(1, aI 1), (0, aR 100)] dX15_gap_1 rfl rfl rfl rfl ?_
  refine r_to [1, 0] [(0, aR 100), (1, aI 1)] rfl ?_
  exact sl_Tw_gap_2 P W 1 G
theorem c_Tw_gap (P W : Int) (G : St) : MG (MTw_gap P W) [aR 100] G (Tw_gap G) := MG.of plX15 (Nat.le_of_ble_eq_true rfl) (s_Tw_gap P W G)
theorem s_Tw_operator (P W : Int) (G : St) : SS (MTw_operator P W) some 0 [(0, aR 100)] [] G (Tw_operator G) := by
  refine r_aload_n 1 0 dX15_operator_0 rfl rfl rfl ?_
  refine r_iconst 2 0 dX15_operator_1 rfl rfl ?_
  refine r_callvI 5 (Mc := MTw_look0 P W) (o := 100) (as := [aI 0]) (st := []) dX15_operator_2 rfl (c_Tw_look0 P W 0 G) lkX15_329 (cmTw_look0 P W) rfl rfl rfl (fun _ => dsT_100 P W _) nn100 rfl (Nat.le_of_ble_eq_true rfl) (Nat.le_of_ble_eq_true rfl) (fun _ => rfl) rfl (fun z1 G2 => ?_)
  refine r_istore_n 6 [(1, aI z1), (0, aR 100)] dX15_operator_5 rfl rfl rfl rfl ?_
  refine r_aload_n 7 1 dX15_operator_6 rfl rfl rfl ?_
  refine r_iconst 8 1 dX15_operator_7 rfl rfl ?_
  refine r_callvI 11 (Mc := MTw_look0 P W) (o := 100) (as := [aI 1]) (st := []) dX15_operator_8 rfl (c_Tw_look0 P W 1 G2) lkX15_329 (cmTw_look0 P W) rfl rfl rfl (fun _ => dsT_100 P W _) nn100 rfl (Nat.le_of_ble_eq_true rfl) (Nat.le_of_ble_eq_true rfl) (fun _ => rfl) rfl (fun z3 G4 => ?_)
  refine r_istore_n 12 [(2, aI z3), (1, aI z1), (0, aR 100)] dX15_operator_11 rfl rfl rfl rfl ?_
  refine r_aload_n 13 2 dX15_operator_12 rfl rfl rfl ?_
  refine r_callvI 16 (Mc := MTw_isPair P W) (o := 100) (as := []) (st := []) dX15_operator_13 rfl (c_Tw_isPair P W G4) lkX15_405 (cmTw_isPair P W) rfl rfl rfl (fun _ => dsT_100 P W _) nn100 rfl (Nat.le_of_ble_eq_true rfl) (Nat.le_of_ble_eq_true rfl) (fun _ => rfl) rfl (fun z5 G6 => ?_)
  refine r_if_eq 97 19 dX15_operator_16 rfl rfl ?_ ?_
  · refine r_iload_n 98 1 dX15_operator_97 rfl rfl rfl ?_
    refine r_bipush 100 124 dX15_operator_98 rfl rfl ?_
    refine r_icmp_ne 107 103 dX15_operator_100 rfl rfl ?_ ?_
    · refine r_iload_n 108 1 dX15_operator_107 rfl rfl rfl ?_
      refine r_bipush 110 94 dX15_operator_108 rfl rfl ?_
      refine r_icmp_ne 117 113 dX15_operator_110 rfl rfl ?_ ?_
      · refine r_iload_n 118 1 dX15_operator_117 rfl rfl rfl ?_
        refine r_bipush 120 38 dX15_operator_118 rfl rfl ?_
        refine r_icmp_ne 127 123 dX15_operator_120 rfl rfl ?_ ?_
        · refine r_iload_n 128 1 dX15_operator_127 rfl rfl rfl ?_
          refine r_bipush 130 60 dX15_operator_128 rfl rfl ?_
          refine r_icmp_ne 138 133 dX15_operator_130 rfl rfl ?_ ?_
          · refine r_iload_n 139 1 dX15_operator_138 rfl rfl rfl ?_
            refine r_bipush 141 62 dX15_operator_139 rfl rfl ?_
            refine r_icmp_ne 149 144 dX15_operator_141 rfl rfl ?_ ?_
            · refine r_iload_n 150 1 dX15_operator_149 rfl rfl rfl ?_
              refine r_bipush 152 43 dX15_operator_150 rfl rfl ?_
              refine SS.phi (fun VV_ => some (VV_, G6)) ?_
              refine r_icmp_ne 160 155 dX15_operator_152 rfl rfl ?_ ?_
              · refine r_iload_n 161 1 dX15_operator_160 rfl rfl rfl ?_
                refine r_bipush 163 45 dX15_operator_161 rfl rfl ?_
                refine SS.phi (fun VV_ => some (VV_, G6)) ?_
                refine r_icmp_ne 171 166 dX15_operator_163 rfl rfl ?_ ?_
                · refine r_iload_n 172 1 dX15_operator_171 rfl rfl rfl ?_
                  refine r_bipush 174 42 dX15_operator_172 rfl rfl ?_
                  refine SS.phi (fun VV_ => some (VV_, G6)) ?_
                  refine r_icmp_ne 182 177 dX15_operator_174 rfl rfl ?_ ?_
                  · refine r_iload_n 183 1 dX15_operator_182 rfl rfl rfl ?_
                    refine r_bipush 185 47 dX15_operator_183 rfl rfl ?_
                    refine SS.phi (fun VV_ => some (VV_, G6)) ?_
                    refine r_icmp_ne 193 188 dX15_operator_185 rfl rfl ?_ ?_
                    · refine r_iload_n 194 1 dX15_operator_193 rfl rfl rfl ?_
                      refine r_bipush 196 37 dX15_operator_194 rfl rfl ?_
                      refine SS.phi (fun VV_ => some (VV_, G6)) ?_
                      refine r_icmp_ne 204 199 dX15_operator_196 rfl rfl ?_ ?_
                      · refine r_iconst 205 0 dX15_operator_204 rfl rfl ?_
                        exact r_ireturn dX15_operator_205 rfl
                      · refine r_bipush 201 18 dX15_operator_199 rfl rfl ?_
                        refine r_goto 205 dX15_operator_201 rfl ?_
                        exact r_ireturn dX15_operator_205 rfl
                    · refine r_bipush 190 17 dX15_operator_188 rfl rfl ?_
                      refine r_goto 205 dX15_operator_190 rfl ?_
                      exact r_ireturn dX15_operator_205 rfl
                  · refine r_bipush 179 16 dX15_operator_177 rfl rfl ?_
                    refine r_goto 205 dX15_operator_179 rfl ?_
                    exact r_ireturn dX15_operator_205 rfl
                · refine r_bipush 168 15 dX15_operator_166 rfl rfl ?_
                  refine r_goto 205 dX15_operator_168 rfl ?_
                  exact r_ireturn dX15_operator_205 rfl
              · refine r_bipush 157 14 dX15_operator_155 rfl rfl ?_
                refine r_goto 205 dX15_operator_157 rfl ?_
                exact r_ireturn dX15_operator_205 rfl
            · refine r_bipush 146 10 dX15_operator_144 rfl rfl ?_
              refine r_goto 205 dX15_operator_146 rfl ?_
              exact r_ireturn dX15_operator_205 rfl
          · refine r_bipush 135 8 dX15_operator_133 rfl rfl ?_
            refine r_goto 205 dX15_operator_135 rfl ?_
            exact r_ireturn dX15_operator_205 rfl
        · refine r_iconst 124 5 dX15_operator_123 rfl rfl ?_
          refine r_goto 205 dX15_operator_124 rfl ?_
          exact r_ireturn dX15_operator_205 rfl
      · refine r_iconst 114 4 dX15_operator_113 rfl rfl ?_
        refine r_goto 205 dX15_operator_114 rfl ?_
        exact r_ireturn dX15_operator_205 rfl
    · refine r_iconst 104 3 dX15_operator_103 rfl rfl ?_
      refine r_goto 205 dX15_operator_104 rfl ?_
      exact r_ireturn dX15_operator_205 rfl
  · refine r_iload_n 20 1 dX15_operator_19 rfl rfl rfl ?_
    refine r_bipush 22 124 dX15_operator_20 rfl rfl ?_
    refine r_icmp_ne 29 25 dX15_operator_22 rfl rfl ?_ ?_
    · refine r_iload_n 30 1 dX15_operator_29 rfl rfl rfl ?_
      refine r_bipush 32 38 dX15_operator_30 rfl rfl ?_
      refine SS.phi (fun VV_ => some (VV_, G6)) ?_
      refine r_icmp_ne 39 35 dX15_operator_32 rfl rfl ?_ ?_
      · refine r_iload_n 40 1 dX15_operator_39 rfl rfl rfl ?_
        refine r_bipush 42 61 dX15_operator_40 rfl rfl ?_
        refine SS.phi (fun VV_ => some (VV_, G6)) ?_
        refine r_icmp_ne 50 45 dX15_operator_42 rfl rfl ?_ ?_
        · refine r_iload_n 51 1 dX15_operator_50 rfl rfl rfl ?_
          refine r_bipush 53 33 dX15_operator_51 rfl rfl ?_
          refine SS.phi (fun VV_ => some (VV_, G6)) ?_
          refine r_icmp_ne 61 56 dX15_operator_53 rfl rfl ?_ ?_
          · refine r_iload_n 62 1 dX15_operator_61 rfl rfl rfl ?_
            refine r_bipush 64 60 dX15_operator_62 rfl rfl ?_
            refine SS.phi (fun VV_ => some (VV_, G6)) ?_
            refine r_icmp_ne 83 67 dX15_operator_64 rfl rfl ?_ ?_
            · refine r_iload_n 84 0 dX15_operator_83 rfl rfl rfl ?_
              refine r_bipush 86 62 dX15_operator_84 rfl rfl ?_
              refine SS.phi (fun VV_ => some (VV_, G6)) ?_
              refine r_icmp_ne 94 89 dX15_operator_86 rfl rfl ?_ ?_
              · refine r_bipush 96 11 dX15_operator_94 rfl rfl ?_
                exact r_ireturn dX15_operator_96 rfl
              · refine r_bipush 91 13 dX15_operator_89 rfl rfl ?_
                refine r_goto 96 dX15_operator_91 rfl ?_
                exact r_ireturn dX15_operator_96 rfl
            · refine r_iload_n 68 0 dX15_operator_67 rfl rfl rfl ?_
              refine r_bipush 70 60 dX15_operator_68 rfl rfl ?_
              refine SS.phi (fun VV_ => some (VV_, G6)) ?_
              refine r_icmp_ne 78 73 dX15_operator_70 rfl rfl ?_ ?_
              · refine r_bipush 80 9 dX15_operator_78 rfl rfl ?_
                refine r_goto 96 dX15_operator_80 rfl ?_
                exact r_ireturn dX15_operator_96 rfl
              · refine r_bipush 75 12 dX15_operator_73 rfl rfl ?_
                refine r_goto 96 dX15_operator_75 rfl ?_
                exact r_ireturn dX15_operator_96 rfl
          · refine r_bipush 58 7 dX15_operator_56 rfl rfl ?_
            refine r_goto 96 dX15_operator_58 rfl ?_
            exact r_ireturn dX15_operator_96 rfl
        · refine r_bipush 47 6 dX15_operator_45 rfl rfl ?_
          refine r_goto 96 dX15_operator_47 rfl ?_
          exact r_ireturn dX15_operator_96 rfl
      · refine r_iconst 36 2 dX15_operator_35 rfl rfl ?_
        refine r_goto 96 dX15_operator_36 rfl ?_
        exact r_ireturn dX15_operator_96 rfl
    · refine r_iconst 26 1 dX15_operator_25 rfl rfl ?_
      refine r_goto 96 dX15_operator_26 rfl ?_
      exact r_ireturn dX15_operator_96 rfl
theorem c_Tw_operator (P W : Int) (G : St) : MG (MTw_operator P W) [aR 100] G (Tw_operator G) := MG.of plX15 (Nat.le_of_ble_eq_true rfl) (s_Tw_operator P W G)
theorem s_Tw_push (P W : Int) (x1 : Int) (x2 : Int) (x3 : Int) (G : St) : SS (MTw_push P W) some 0 [(0, aR 100), (1, aI x1), (2, aI x2), (3, aI x3)] [] G (Tw_push x1 x2 x3 G) := by
  refine r_aload_n 1 0 dX15_push_0 rfl rfl rfl ?_
  refine r_get 4 (aR 122) dX15_push_1 fkX15_38 (fun _ => dsT_100 P W _) nn100 rfl rfl ?_
  refine r_aload_n 5 0 dX15_push_4 rfl rfl rfl ?_
  refine r_get 8 (aI (G 100 20)) dX15_push_5 fkX15_417 (fun _ => dsT_100 P W _) nn100 rfl rfl ?_
  refine r_iload_n 9 1 dX15_push_8 rfl rfl rfl ?_
  refine r_iast 10 dX15_push_9 (fun _ _ _ => dsT_122 P W _) (fun _ _ => nn122) rfl ?_
  refine ss_tk (fun G1 => ?_)
  refine r_aload_n 11 0 dX15_push_10 rfl rfl rfl ?_
  refine r_get 14 (aR 123) dX15_push_11 fkX15_41 (fun _ => dsT_100 P W _) nn100 rfl rfl ?_
  refine r_aload_n 15 0 dX15_push_14 rfl rfl rfl ?_
  refine r_get 18 (aI (G1 100 20)) dX15_push_15 fkX15_417 (fun _ => dsT_100 P W _) nn100 rfl rfl ?_
  refine r_iload_n 19 2 dX15_push_18 rfl rfl rfl ?_
  refine r_iast 20 dX15_push_19 (fun _ _ _ => dsT_123 P W _) (fun _ _ => nn123) rfl ?_
  refine ss_tk (fun G2 => ?_)
  refine r_aload_n 21 0 dX15_push_20 rfl rfl rfl ?_
  refine r_get 24 (aR 124) dX15_push_21 fkX15_44 (fun _ => dsT_100 P W _) nn100 rfl rfl ?_
  refine r_aload_n 25 0 dX15_push_24 rfl rfl rfl ?_
  refine r_get 28 (aI (G2 100 20)) dX15_push_25 fkX15_417 (fun _ => dsT_100 P W _) nn100 rfl rfl ?_
  refine r_iload_n 29 3 dX15_push_28 rfl rfl rfl ?_
  refine r_iast 30 dX15_push_29 (fun _ _ _ => dsT_124 P W _) (fun _ _ => nn124) rfl ?_
  refine ss_tk (fun G3 => ?_)
  refine r_aload_n 31 0 dX15_push_30 rfl rfl rfl ?_
  refine r_get 34 (aR 125) dX15_push_31 fkX15_47 (fun _ => dsT_100 P W _) nn100 rfl rfl ?_
  refine r_aload_n 35 0 dX15_push_34 rfl rfl rfl ?_
  refine r_get 38 (aI (G3 100 20)) dX15_push_35 fkX15_417 (fun _ => dsT_100 P W _) nn100 rfl rfl ?_
  refine r_iconst 39 0 dX15_push_38 rfl rfl ?_
  refine r_iast 40 dX15_push_39 (fun _ _ _ => dsT_125 P W _) (fun _ _ => nn125) rfl ?_
  refine ss_tk (fun G4 => ?_)
  refine r_aload_n 41 0 dX15_push_40 rfl rfl rfl ?_
  refine r_dup 42 dX15_push_41 rfl rfl ?_
  refine r_get 45 (aI (G4 100 20)) dX15_push_42 fkX15_417 (fun _ => dsT_100 P W _) nn100 rfl rfl ?_
  refine r_iconst 46 1 dX15_push_45 rfl rfl ?_
  refine r_iadd 47 dX15_push_46 rfl ?_
  refine r_putI 50 dX15_push_47 fkX15_417 (fun _ => dsT_100 P W _) nn100 rfl rfl ?_
  refine ss_tk (fun G5 => ?_)
  exact r_return dX15_push_50 rfl
theorem c_Tw_push (P W : Int) (x1 : Int) (x2 : Int) (x3 : Int) (G : St) : MG (MTw_push P W) [aR 100, aI x1, aI x2, aI x3] G (Tw_push x1 x2 x3 G) := MG.of plX15 (Nat.le_of_ble_eq_true rfl) (s_Tw_push P W x1 x2 x3 G)
theorem s_Tw_isDigit (P W : Int) (x0 : Int) (G : St) : SS (MTw_isDigit P W) some 0 [(0, aI x0)] [] G (Tw_isDigit x0 G) := by
  refine r_iload_n 1 0 dX15_isDigit_0 rfl rfl rfl ?_
  refine r_bipush 3 48 dX15_isDigit_1 rfl rfl ?_
  refine SS.phi (fun VV_ => ckB VV_ 2 (some (VV_, G))) ?_
  refine r_icmp_lt 16 6 dX15_isDigit_3 rfl rfl ?_ ?_
  · refine r_iconst 17 0 dX15_isDigit_16 rfl rfl ?_
    exact r_zreturn dX15_isDigit_17 rfl
  · refine r_iload_n 7 0 dX15_isDigit_6 rfl rfl rfl ?_
    refine r_bipush 9 57 dX15_isDigit_7 rfl rfl ?_
    refine SS.phi (fun VV_ => ckB VV_ 2 (some (VV_, G))) ?_
    refine r_icmp_gt 16 12 dX15_isDigit_9 rfl rfl ?_ ?_
    · refine r_iconst 17 0 dX15_isDigit_16 rfl rfl ?_
      exact r_zreturn dX15_isDigit_17 rfl
    · refine r_iconst 13 1 dX15_isDigit_12 rfl rfl ?_
      refine r_goto 17 dX15_isDigit_13 rfl ?_
      exact r_zreturn dX15_isDigit_17 rfl
theorem c_Tw_isDigit (P W : Int) (x0 : Int) (G : St) : MG (MTw_isDigit P W) [aI x0] G (Tw_isDigit x0 G) := MG.of plX15 (Nat.le_of_ble_eq_true rfl) (s_Tw_isDigit P W x0 G)
theorem s_Tw_isLetter_b12 (P W : Int) (x0 : Int) (G : St) : SS (MTw_isLetter P W) some 12 [(0, aI x0)] [] G (Tw_isLetter_b12 x0 G) := by
  refine r_iload_n 13 0 dX15_isLetter_12 rfl rfl rfl ?_
  refine r_bipush 15 65 dX15_isLetter_13 rfl rfl ?_
  refine SS.phi (fun VV_ => ckB VV_ 2 (some (VV_, G))) ?_
  refine r_icmp_lt 24 18 dX15_isLetter_15 rfl rfl ?_ ?_
  · refine r_iload_n 25 0 dX15_isLetter_24 rfl rfl rfl ?_
    refine r_bipush 27 95 dX15_isLetter_25 rfl rfl ?_
    refine SS.phi (fun VV_ => ckB VV_ 2 (some (VV_, G))) ?_
    refine r_icmp_ne 34 30 dX15_isLetter_27 rfl rfl ?_ ?_
    · refine r_iconst 35 0 dX15_isLetter_34 rfl rfl ?_
      exact r_zreturn dX15_isLetter_35 rfl
    · refine r_iconst 31 1 dX15_isLetter_30 rfl rfl ?_
      refine r_goto 35 dX15_isLetter_31 rfl ?_
      exact r_zreturn dX15_isLetter_35 rfl
  · refine r_iload_n 19 0 dX15_isLetter_18 rfl rfl rfl ?_
    refine r_bipush 21 90 dX15_isLetter_19 rfl rfl ?_
    refine SS.phi (fun VV_ => ckB VV_ 2 (some (VV_, G))) ?_
    refine r_icmp_le 30 24 dX15_isLetter_21 rfl rfl ?_ ?_
    · refine r_iconst 31 1 dX15_isLetter_30 rfl rfl ?_
      refine r_goto 35 dX15_isLetter_31 rfl ?_
      exact r_zreturn dX15_isLetter_35 rfl
    · refine r_iload_n 25 0 dX15_isLetter_24 rfl rfl rfl ?_
      refine r_bipush 27 95 dX15_isLetter_25 rfl rfl ?_
      refine SS.phi (fun VV_ => ckB VV_ 2 (some (VV_, G))) ?_
      refine r_icmp_ne 34 30 dX15_isLetter_27 rfl rfl ?_ ?_
      · refine r_iconst 35 0 dX15_isLetter_34 rfl rfl ?_
        exact r_zreturn dX15_isLetter_35 rfl
      · refine r_iconst 31 1 dX15_isLetter_30 rfl rfl ?_
        refine r_goto 35 dX15_isLetter_31 rfl ?_
        exact r_zreturn dX15_isLetter_35 rfl
theorem s_Tw_isLetter (P W : Int) (x0 : Int) (G : St) : SS (MTw_isLetter P W) some 0 [(0, aI x0)] [] G (Tw_isLetter x0 G) := by
  refine r_iload_n 1 0 dX15_isLetter_0 rfl rfl rfl ?_
  refine r_bipush 3 97 dX15_isLetter_1 rfl rfl ?_
  refine r_icmp_lt 12 6 dX15_isLetter_3 rfl rfl ?_ ?_
  · exact s_Tw_isLetter_b12 P W x0 G
  · refine r_iload_n 7 0 dX15_isLetter_6 rfl rfl rfl ?_
    refine r_bipush 9 122 dX15_isLetter_7 rfl rfl ?_
    refine SS.phi (fun VV_ => ckB VV_ 2 (some (VV_, G))) ?_
    refine r_icmp_le 30 12 dX15_isLetter_9 rfl rfl ?_ ?_
    · refine r_iconst 31 1 dX15_isLetter_30 rfl rfl ?_
      refine r_goto 35 dX15_isLetter_31 rfl ?_
      exact r_zreturn dX15_isLetter_35 rfl
    · refine r_iload_n 13 0 dX15_isLetter_12 rfl rfl rfl ?_
      refine r_bipush 15 65 dX15_isLetter_13 rfl rfl ?_
      refine SS.phi (fun VV_ => ckB VV_ 2 (some (VV_, G))) ?_
      refine r_icmp_lt 24 18 dX15_isLetter_15 rfl rfl ?_ ?_
      · refine r_iload_n 25 0 dX15_isLetter_24 rfl rfl rfl ?_
        refine r_bipush 27 95 dX15_isLetter_25 rfl rfl ?_
        refine SS.phi (fun VV_ => ckB VV_ 2 (some (VV_, G))) ?_
        refine r_icmp_ne 34 30 dX15_isLetter_27 rfl rfl ?_ ?_
        · refine r_iconst 35 0 dX15_isLetter_34 rfl rfl ?_
          exact r_zreturn dX15_isLetter_35 rfl
        · refine r_iconst 31 1 dX15_isLetter_30 rfl rfl ?_
          refine r_goto 35 dX15_isLetter_31 rfl ?_
          exact r_zreturn dX15_isLetter_35 rfl
      · refine r_iload_n 19 0 dX15_isLetter_18 rfl rfl rfl ?_
        refine r_bipush 21 90 dX15_isLetter_19 rfl rfl ?_
        refine SS.phi (fun VV_ => ckB VV_ 2 (some (VV_, G))) ?_
        refine r_icmp_le 30 24 dX15_isLetter_21 rfl rfl ?_ ?_
        · refine r_iconst 31 1 dX15_isLetter_30 rfl rfl ?_
          refine r_goto 35 dX15_isLetter_31 rfl ?_
          exact r_zreturn dX15_isLetter_35 rfl
        · refine r_iload_n 25 0 dX15_isLetter_24 rfl rfl rfl ?_
          refine r_bipush 27 95 dX15_isLetter_25 rfl rfl ?_
          refine SS.phi (fun VV_ => ckB VV_ 2 (some (VV_, G))) ?_
          refine r_icmp_ne 34 30 dX15_isLetter_27 rfl rfl ?_ ?_
          · refine r_iconst 35 0 dX15_isLetter_34 rfl rfl ?_
            exact r_zreturn dX15_isLetter_35 rfl
          · refine r_iconst 31 1 dX15_isLetter_30 rfl rfl ?_
            refine r_goto 35 dX15_isLetter_31 rfl ?_
            exact r_zreturn dX15_isLetter_35 rfl
theorem c_Tw_isLetter (P W : Int) (x0 : Int) (G : St) : MG (MTw_isLetter P W) [aI x0] G (Tw_isLetter x0 G) := MG.of plX15 (Nat.le_of_ble_eq_true rfl) (s_Tw_isLetter P W x0 G)
theorem s_Tw_wordEnd_b76 (P W : Int) (x1 : Int) (G : St) : SS (MTw_wordEnd P W) some 76 [(1, aI x1)] [] G (Tw_wordEnd_b76 x1 G) := by
  refine r_iload_n 77 0 dX15_wordEnd_76 rfl rfl rfl ?_
  exact r_ireturn dX15_wordEnd_77 rfl
theorem s_Tw_wordEnd_b70 (P W : Int) (X16 : Int × St → Option (Int × St)) (hX16 : ∀ s, So (MTw_wordEnd P W) 16 [(0, aR 100), (1, aI (s.1))] [] s.2 (X16 s)) (x1 : Int) (G : St) : SS (MTw_wordEnd P W) (lk X16 some) 70 [(0, aR 100), (1, aI x1)] [] G (Tw_wordEnd_b70 x1 G) := by
  refine r_iinc 73 [(1, aI (x1 + 1)), (0, aR 100)] 1 dX15_wordEnd_70 rfl rfl rfl rfl ?_
  refine r_goto 16 dX15_wordEnd_73 rfl ?_
  refine r_to [1, 0] [(0, aR 100), (1, aI (x1 + 1))] rfl ?_
  exact SS.back (hX16 (x1 + 1, G))
theorem s_Tw_wordEnd_b63 (P W : Int) (X16 : Int × St → Option (Int × St)) (hX16 : ∀ s, So (MTw_wordEnd P W) 16 [(0, aR 100), (1, aI (s.1))] [] s.2 (X16 s)) (x1 : Int) (s0 : Int) (G : St) : SS (MTw_wordEnd P W) (lk X16 some) 63 [(0, aR 100), (1, aI x1)] [aI s0, aR 105] G (Tw_wordEnd_b63 x1 s0 G) := by
  refine r_iald 64 dX15_wordEnd_63 (fun _ _ _ => dsT_105 P W _) (fun _ _ => nn105) rfl ?_
  refine r_callsI 67 (Mc := MTw_isDigit P W) (as := [aI (G 105 s0)]) (st := []) dX15_wordEnd_64 rfl (c_Tw_isDigit P W (G 105 s0) G) q2347 (cmTw_isDigit P W) rfl rfl rfl (Nat.le_of_ble_eq_true rfl) (Nat.le_of_ble_eq_true rfl) (fun _ => rfl) rfl (fun z7 G8 => ?_)
  refine r_if_eq 76 70 dX15_wordEnd_67 rfl rfl ?_ ?_
  · refine SS.ex ?_
    refine r_to [1] [(1, aI x1)] rfl ?_
    exact s_Tw_wordEnd_b76 P W x1 G8
  · exact s_Tw_wordEnd_b70 P W X16 hX16 x1 G8
theorem s_Tw_wordEnd_b40 (P W : Int) (X16 : Int × St → Option (Int × St)) (hX16 : ∀ s, So (MTw_wordEnd P W) 16 [(0, aR 100), (1, aI (s.1))] [] s.2 (X16 s)) (x1 : Int) (s0 : Int) (G : St) : SS (MTw_wordEnd P W) (lk X16 some) 40 [(0, aR 100), (1, aI x1)] [aI s0, aR 105] G (Tw_wordEnd_b40 x1 s0 G) := by
  refine r_iald 41 dX15_wordEnd_40 (fun _ _ _ => dsT_105 P W _) (fun _ _ => nn105) rfl ?_
  refine r_callsI 44 (Mc := MTw_isLetter P W) (as := [aI (G 105 s0)]) (st := []) dX15_wordEnd_41 rfl (c_Tw_isLetter P W (G 105 s0) G) q2344 (cmTw_isLetter P W) rfl rfl rfl (Nat.le_of_ble_eq_true rfl) (Nat.le_of_ble_eq_true rfl) (fun _ => rfl) rfl (fun z5 G6 => ?_)
  refine r_if_ne 70 47 dX15_wordEnd_44 rfl rfl ?_ ?_
  · exact s_Tw_wordEnd_b70 P W X16 hX16 x1 G6
  · refine r_aload_n 48 0 dX15_wordEnd_47 rfl rfl rfl ?_
    refine r_get 51 (aR 105) dX15_wordEnd_48 fkX15_13 (fun _ => dsT_100 P W _) nn100 rfl rfl ?_
    refine r_iload_n 52 1 dX15_wordEnd_51 rfl rfl rfl ?_
    refine r_sipush 55 4000 dX15_wordEnd_52 rfl rfl ?_
    refine SS.phi (fun VV_ => Tw_wordEnd_b63 x1 VV_ G6) ?_
    refine r_icmp_ge 62 58 dX15_wordEnd_55 rfl rfl ?_ ?_
    · refine r_iconst 63 0 dX15_wordEnd_62 rfl rfl ?_
      exact s_Tw_wordEnd_b63 P W X16 hX16 x1 0 G6
    · refine r_iload_n 59 1 dX15_wordEnd_58 rfl rfl rfl ?_
      refine r_goto 63 dX15_wordEnd_59 rfl ?_
      exact s_Tw_wordEnd_b63 P W X16 hX16 x1 x1 G6
theorem s_Tw_wordEnd_s16 (P W : Int) (X16 : Int × St → Option (Int × St)) (hX16 : ∀ s, So (MTw_wordEnd P W) 16 [(0, aR 100), (1, aI (s.1))] [] s.2 (X16 s)) (x1 : Int) (G : St) : SS (MTw_wordEnd P W) (lk X16 some) 16 [(0, aR 100), (1, aI x1)] [] G (Tw_wordEnd_s16 x1 G) := by
  refine r_iload_n 17 1 dX15_wordEnd_16 rfl rfl rfl ?_
  refine r_aload_n 18 0 dX15_wordEnd_17 rfl rfl rfl ?_
  refine r_get 21 (aI (G 100 5)) dX15_wordEnd_18 fkX15_320 (fun _ => dsT_100 P W _) nn100 rfl rfl ?_
  refine r_icmp_ge 76 24 dX15_wordEnd_21 rfl rfl ?_ ?_
  · refine SS.ex ?_
    refine r_to [1] [(1, aI x1)] rfl ?_
    exact s_Tw_wordEnd_b76 P W x1 G
  · refine r_aload_n 25 0 dX15_wordEnd_24 rfl rfl rfl ?_
    refine r_get 28 (aR 105) dX15_wordEnd_25 fkX15_13 (fun _ => dsT_100 P W _) nn100 rfl rfl ?_
    refine r_iload_n 29 1 dX15_wordEnd_28 rfl rfl rfl ?_
    refine r_sipush 32 4000 dX15_wordEnd_29 rfl rfl ?_
    refine SS.phi (fun VV_ => Tw_wordEnd_b40 x1 VV_ G) ?_
    refine r_icmp_ge 39 35 dX15_wordEnd_32 rfl rfl ?_ ?_
    · refine r_iconst 40 0 dX15_wordEnd_39 rfl rfl ?_
      exact s_Tw_wordEnd_b40 P W X16 hX16 x1 0 G
    · refine r_iload_n 36 1 dX15_wordEnd_35 rfl rfl rfl ?_
      refine r_goto 40 dX15_wordEnd_36 rfl ?_
      exact s_Tw_wordEnd_b40 P W X16 hX16 x1 x1 G
theorem sl_Tw_wordEnd_16 (P W : Int) (x1 : Int) (G : St) : SS (MTw_wordEnd P W) some 16 [(0, aR 100), (1, aI x1)] [] G (Tw_wordEnd_l16 x1 G) := by
  exact SS.loop (σ := Int × St) (fun s => [(0, aR 100), (1, aI (s.1))]) (fun s => s.2) (fun s => Tw_wordEnd_s16 s.1 s.2) (fun X16 hX16 s => s_Tw_wordEnd_s16 P W   X16 hX16 s.1 s.2) (x1, G)
theorem s_Tw_wordEnd (P W : Int) (G : St) : SS (MTw_wordEnd P W) some 0 [(0, aR 100)] [] G (Tw_wordEnd G) := by
  refine r_aload_n 1 0 dX15_wordEnd_0 rfl rfl rfl ?_
  refine r_get 4 (aI (G 100 6)) dX15_wordEnd_1 fkX15_326 (fun _ => dsT_100 P W _) nn100 rfl rfl ?_
  refine r_istore_n 5 [(1, aI (G 100 6)), (0, aR 100)] dX15_wordEnd_4 rfl rfl rfl rfl ?_
  refine r_aload_n 6 1 dX15_wordEnd_5 rfl rfl rfl ?_
  refine r_iconst 7 0 dX15_wordEnd_6 rfl rfl ?_
  refine r_callvI 10 (Mc := MTw_look0 P W) (o := 100) (as := [aI 0]) (st := []) dX15_wordEnd_7 rfl (c_Tw_look0 P W 0 G) lkX15_329 (cmTw_look0 P W) rfl rfl rfl (fun _ => dsT_100 P W _) nn100 rfl (Nat.le_of_ble_eq_true rfl) (Nat.le_of_ble_eq_true rfl) (fun _ => rfl) rfl (fun z1 G2 => ?_)
  refine r_callsI 13 (Mc := MTw_isLetter P W) (as := [aI z1]) (st := []) dX15_wordEnd_10 rfl (c_Tw_isLetter P W z1 G2) q2344 (cmTw_isLetter P W) rfl rfl rfl (Nat.le_of_ble_eq_true rfl) (Nat.le_of_ble_eq_true rfl) (fun _ => rfl) rfl (fun z3 G4 => ?_)
  refine r_if_eq 76 16 dX15_wordEnd_13 rfl rfl ?_ ?_
  · refine r_to [0] [(1, aI (G 100 6))] rfl ?_
    exact s_Tw_wordEnd_b76 P W (G 100 6) G4
  · refine r_to [1, 0] [(0, aR 100), (1, aI (G 100 6))] rfl ?_
    exact sl_Tw_wordEnd_16 P W (G 100 6) G4
theorem c_Tw_wordEnd (P W : Int) (G : St) : MG (MTw_wordEnd P W) [aR 100] G (Tw_wordEnd G) := MG.of plX15 (Nat.le_of_ble_eq_true rfl) (s_Tw_wordEnd P W G)
theorem s_Tw_isWord_b81 (P W : Int) (x3 : Int) (G : St) : SS (MTw_isWord P W) some 81 [(3, aI x3)] [] G (Tw_isWord_b81 x3 G) := by
  refine r_iload_n 82 0 dX15_isWord_81 rfl rfl rfl ?_
  exact r_zreturn dX15_isWord_82 rfl
theorem s_Tw_isWord_b74 (P W : Int) (x1 : Int) (X35 : Int × Int × St → Option (Int × St)) (hX35 : ∀ s, So (MTw_isWord P W) 35 [(0, aR 100), (1, aR x1), (3, aI (s.1)), (4, aI (s.2.1))] [] s.2.2 (X35 s)) (x4 : Int) (s0 : Int) (G : St) : SS (MTw_isWord P W) (lk X35 some) 74 [(0, aR 100), (1, aR x1), (4, aI x4)] [aI s0] G (Tw_isWord_b74 x1 x4 s0 G) := by
  refine r_istore_n 75 [(3, aI s0), (0, aR 100), (1, aR x1), (4, aI x4)] dX15_isWord_74 rfl rfl rfl rfl ?_
  refine r_iinc 78 [(4, aI (x4 + 1)), (3, aI s0), (0, aR 100), (1, aR x1)] 3 dX15_isWord_75 rfl rfl rfl rfl ?_
  refine r_goto 35 dX15_isWord_78 rfl ?_
  refine r_to [2, 3, 1, 0] [(0, aR 100), (1, aR x1), (3, aI s0), (4, aI (x4 + 1))] rfl ?_
  exact SS.back (hX35 (s0, x4 + 1, G))
theorem s_Tw_isWord_s35 (P W : Int) (x1 : Int) (X35 : Int × Int × St → Option (Int × St)) (hX35 : ∀ s, So (MTw_isWord P W) 35 [(0, aR 100), (1, aR x1), (3, aI (s.1)), (4, aI (s.2.1))] [] s.2.2 (X35 s)) (x3 : Int) (x4 : Int) (G : St) : SS (MTw_isWord P W) (lk X35 some) 35 [(0, aR 100), (1, aR x1), (3, aI x3), (4, aI x4)] [] G (Tw_isWord_s35 x1 x3 x4 G) := by
  refine r_iload_n 36 2 dX15_isWord_35 rfl rfl rfl ?_
  refine r_if_eq 81 39 dX15_isWord_36 rfl rfl ?_ ?_
  · refine SS.ex ?_
    refine r_to [2] [(3, aI x3)] rfl ?_
    exact s_Tw_isWord_b81 P W x3 G
  · refine r_iload 41 3 dX15_isWord_39 rfl rfl ?_
    refine r_aload_n 42 1 dX15_isWord_41 rfl rfl rfl ?_
    refine r_S_len 45 (st := [aI x4]) dX15_isWord_42 q2350 rfl (Nat.le_of_ble_eq_true rfl) (Nat.le_of_ble_eq_true rfl) rfl (fun z5 G6 => ?_)
    refine r_icmp_ge 81 48 dX15_isWord_45 rfl rfl ?_ ?_
    · refine SS.ex ?_
      refine r_to [2] [(3, aI x3)] rfl ?_
      exact s_Tw_isWord_b81 P W x3 G6
    · refine r_aload_n 49 0 dX15_isWord_48 rfl rfl rfl ?_
      refine r_get 52 (aR 105) dX15_isWord_49 fkX15_13 (fun _ => dsT_100 P W _) nn100 rfl rfl ?_
      refine r_aload_n 53 0 dX15_isWord_52 rfl rfl rfl ?_
      refine r_get 56 (aI (G6 100 6)) dX15_isWord_53 fkX15_326 (fun _ => dsT_100 P W _) nn100 rfl rfl ?_
      refine r_iload 58 3 dX15_isWord_56 rfl rfl ?_
      refine r_iadd 59 dX15_isWord_58 rfl ?_
      refine r_iald 60 dX15_isWord_59 (fun _ _ _ => dsT_105 P W _) (fun _ _ => nn105) rfl ?_
      refine r_aload_n 61 1 dX15_isWord_60 rfl rfl rfl ?_
      refine r_iload 63 3 dX15_isWord_61 rfl rfl ?_
      refine r_S_chr 66 (st := [aI (G6 105 ((G6 100 6) + x4))]) dX15_isWord_63 q2351 rfl (Nat.le_of_ble_eq_true rfl) (Nat.le_of_ble_eq_true rfl) rfl (fun z7 G8 => ?_)
      refine SS.phi (fun VV_ => Tw_isWord_b74 x1 x4 VV_ G8) ?_
      refine r_icmp_ne 73 69 dX15_isWord_66 rfl rfl ?_ ?_
      · refine r_iconst 74 0 dX15_isWord_73 rfl rfl ?_
        refine r_to [0, 1, 3] [(0, aR 100), (1, aR x1), (4, aI x4)] rfl ?_
        exact s_Tw_isWord_b74 P W x1 X35 hX35 x4 0 G8
      · refine r_iconst 70 1 dX15_isWord_69 rfl rfl ?_
        refine r_goto 74 dX15_isWord_70 rfl ?_
        refine r_to [0, 1, 3] [(0, aR 100), (1, aR x1), (4, aI x4)] rfl ?_
        exact s_Tw_isWord_b74 P W x1 X35 hX35 x4 1 G8
theorem sl_Tw_isWord_35 (P W : Int) (x1 : Int) (x3 : Int) (x4 : Int) (G : St) : SS (MTw_isWord P W) some 35 [(0, aR 100), (1, aR x1), (3, aI x3), (4, aI x4)] [] G (Tw_isWord_l35 x1 x3 x4 G) := by
  exact SS.loop (σ := Int × Int × St) (fun s => [(0, aR 100), (1, aR x1), (3, aI (s.1)), (4, aI (s.2.1))]) (fun s => s.2.2) (fun s => Tw_isWord_s35 x1 s.1 s.2.1 s.2.2) (fun X35 hX35 s => s_Tw_isWord_s35 P W x1  X35 hX35 s.1 s.2.1 s.2.2) (x3, x4, G)
theorem s_Tw_isWord_b31 (P W : Int) (x1 : Int) (s0 : Int) (G : St) : SS (MTw_isWord P W) some 31 [(0, aR 100), (1, aR x1)] [aI s0] G (Tw_isWord_b31 x1 s0 G) := by
  refine r_istore_n 32 [(3, aI s0), (0, aR 100), (1, aR x1)] dX15_isWord_31 rfl rfl rfl rfl ?_
  refine r_iconst 33 0 dX15_isWord_32 rfl rfl ?_
  refine r_istore 35 [(4, aI 0), (3, aI s0), (0, aR 100), (1, aR x1)] dX15_isWord_33 rfl rfl rfl ?_
  refine r_to [2, 3, 1, 0] [(0, aR 100), (1, aR x1), (3, aI s0), (4, aI 0)] rfl ?_
  exact sl_Tw_isWord_35 P W x1 s0 0 G
theorem s_Tw_isWord (P W : Int) (x1 : Int) (G : St) : SS (MTw_isWord P W) some 0 [(0, aR 100), (1, aR x1)] [] G (Tw_isWord x1 G) := by
  refine r_aload_n 1 0 dX15_isWord_0 rfl rfl rfl ?_
  refine r_callvI 4 (Mc := MTw_wordEnd P W) (o := 100) (as := []) (st := []) dX15_isWord_1 rfl (c_Tw_wordEnd P W G) lkX15_340 (cmTw_wordEnd P W) rfl rfl rfl (fun _ => dsT_100 P W _) nn100 rfl (Nat.le_of_ble_eq_true rfl) (Nat.le_of_ble_eq_true rfl) (fun _ => rfl) rfl (fun z1 G2 => ?_)
  refine r_istore_n 5 [(2, aI z1), (0, aR 100), (1, aR x1)] dX15_isWord_4 rfl rfl rfl rfl ?_
  refine r_iload_n 6 0 dX15_isWord_5 rfl rfl rfl ?_
  refine r_aload_n 7 1 dX15_isWord_6 rfl rfl rfl ?_
  refine r_get 10 (aI (G2 100 6)) dX15_isWord_7 fkX15_326 (fun _ => dsT_100 P W _) nn100 rfl rfl ?_
  refine r_isub 11 dX15_isWord_10 rfl ?_
  refine r_aload_n 12 2 dX15_isWord_11 rfl rfl rfl ?_
  refine r_S_len 15 (st := [aI (z1 - (G2 100 6))]) dX15_isWord_12 q2350 rfl (Nat.le_of_ble_eq_true rfl) (Nat.le_of_ble_eq_true rfl) rfl (fun z3 G4 => ?_)
  refine SS.phi (fun VV_ => Tw_isWord_b31 x1 VV_ G4) ?_
  refine r_icmp_ne 30 18 dX15_isWord_15 rfl rfl ?_ ?_
  · refine r_iconst 31 0 dX15_isWord_30 rfl rfl ?_
    refine r_to [1, 2] [(0, aR 100), (1, aR x1)] rfl ?_
    exact s_Tw_isWord_b31 P W x1 0 G4
  · refine r_iload_n 19 0 dX15_isWord_18 rfl rfl rfl ?_
    refine r_aload_n 20 1 dX15_isWord_19 rfl rfl rfl ?_
    refine r_get 23 (aI (G4 100 6)) dX15_isWord_20 fkX15_326 (fun _ => dsT_100 P W _) nn100 rfl rfl ?_
    refine SS.phi (fun VV_ => Tw_isWord_b31 x1 VV_ G4) ?_
    refine r_icmp_le 30 26 dX15_isWord_23 rfl rfl ?_ ?_
    · refine r_iconst 31 0 dX15_isWord_30 rfl rfl ?_
      refine r_to [1, 2] [(0, aR 100), (1, aR x1)] rfl ?_
      exact s_Tw_isWord_b31 P W x1 0 G4
    · refine r_iconst 27 1 dX15_isWord_26 rfl rfl ?_
      refine r_goto 31 dX15_isWord_27 rfl ?_
      refine r_to [1, 2] [(0, aR 100), (1, aR x1)] rfl ?_
      exact s_Tw_isWord_b31 P W x1 1 G4
theorem c_Tw_isWord (P W : Int) (x1 : Int) (G : St) : MG (MTw_isWord P W) [aR 100, aR x1] G (Tw_isWord x1 G) := MG.of plX15 (Nat.le_of_ble_eq_true rfl) (s_Tw_isWord P W x1 G)
theorem s_Tw_isKept (P W : Int) (G : St) : SS (MTw_isKept P W) some 0 [(0, aR 100)] [] G (Tw_isKept G) := by
  refine r_aload_n 1 0 dX15_isKept_0 rfl rfl rfl ?_
  refine r_ldcsw 4 0 dX15_isKept_1 q2396 rfl rfl rfl ?_
  refine r_callvI 7 (Mc := MTw_isWord P W) (o := 100) (as := [aR 70]) (st := []) dX15_isKept_4 rfl (c_Tw_isWord P W 70 G) lkX15_355 (cmTw_isWord P W) rfl rfl rfl (fun _ => dsT_100 P W _) nn100 rfl (Nat.le_of_ble_eq_true rfl) (Nat.le_of_ble_eq_true rfl) (fun _ => rfl) rfl (fun z1 G2 => ?_)
  refine r_if_ne 130 10 dX15_isKept_7 rfl rfl ?_ ?_
  · refine r_iconst 131 1 dX15_isKept_130 rfl rfl ?_
    refine r_goto 135 dX15_isKept_131 rfl ?_
    exact r_zreturn dX15_isKept_135 rfl
  · refine r_aload_n 11 0 dX15_isKept_10 rfl rfl rfl ?_
    refine r_ldcsw 14 1 dX15_isKept_11 q2397 rfl rfl rfl ?_
    refine r_callvI 17 (Mc := MTw_isWord P W) (o := 100) (as := [aR 71]) (st := []) dX15_isKept_14 rfl (c_Tw_isWord P W 71 G2) lkX15_355 (cmTw_isWord P W) rfl rfl rfl (fun _ => dsT_100 P W _) nn100 rfl (Nat.le_of_ble_eq_true rfl) (Nat.le_of_ble_eq_true rfl) (fun _ => rfl) rfl (fun z3 G4 => ?_)
    refine r_if_ne 130 20 dX15_isKept_17 rfl rfl ?_ ?_
    · refine r_iconst 131 1 dX15_isKept_130 rfl rfl ?_
      refine r_goto 135 dX15_isKept_131 rfl ?_
      exact r_zreturn dX15_isKept_135 rfl
    · refine r_aload_n 21 0 dX15_isKept_20 rfl rfl rfl ?_
      refine r_ldcsw 24 2 dX15_isKept_21 q2398 rfl rfl rfl ?_
      refine r_callvI 27 (Mc := MTw_isWord P W) (o := 100) (as := [aR 72]) (st := []) dX15_isKept_24 rfl (c_Tw_isWord P W 72 G4) lkX15_355 (cmTw_isWord P W) rfl rfl rfl (fun _ => dsT_100 P W _) nn100 rfl (Nat.le_of_ble_eq_true rfl) (Nat.le_of_ble_eq_true rfl) (fun _ => rfl) rfl (fun z5 G6 => ?_)
      refine r_if_ne 130 30 dX15_isKept_27 rfl rfl ?_ ?_
      · refine r_iconst 131 1 dX15_isKept_130 rfl rfl ?_
        refine r_goto 135 dX15_isKept_131 rfl ?_
        exact r_zreturn dX15_isKept_135 rfl
      · refine r_aload_n 31 0 dX15_isKept_30 rfl rfl rfl ?_
        refine r_ldcsw 34 3 dX15_isKept_31 q2399 rfl rfl rfl ?_
        refine r_callvI 37 (Mc := MTw_isWord P W) (o := 100) (as := [aR 73]) (st := []) dX15_isKept_34 rfl (c_Tw_isWord P W 73 G6) lkX15_355 (cmTw_isWord P W) rfl rfl rfl (fun _ => dsT_100 P W _) nn100 rfl (Nat.le_of_ble_eq_true rfl) (Nat.le_of_ble_eq_true rfl) (fun _ => rfl) rfl (fun z7 G8 => ?_)
        refine r_if_ne 130 40 dX15_isKept_37 rfl rfl ?_ ?_
        · refine r_iconst 131 1 dX15_isKept_130 rfl rfl ?_
          refine r_goto 135 dX15_isKept_131 rfl ?_
          exact r_zreturn dX15_isKept_135 rfl
        · refine r_aload_n 41 0 dX15_isKept_40 rfl rfl rfl ?_
          refine r_ldcsw 44 4 dX15_isKept_41 q2400 rfl rfl rfl ?_
          refine r_callvI 47 (Mc := MTw_isWord P W) (o := 100) (as := [aR 74]) (st := []) dX15_isKept_44 rfl (c_Tw_isWord P W 74 G8) lkX15_355 (cmTw_isWord P W) rfl rfl rfl (fun _ => dsT_100 P W _) nn100 rfl (Nat.le_of_ble_eq_true rfl) (Nat.le_of_ble_eq_true rfl) (fun _ => rfl) rfl (fun z9 G10 => ?_)
          refine r_if_ne 130 50 dX15_isKept_47 rfl rfl ?_ ?_
          · refine r_iconst 131 1 dX15_isKept_130 rfl rfl ?_
            refine r_goto 135 dX15_isKept_131 rfl ?_
            exact r_zreturn dX15_isKept_135 rfl
          · refine r_aload_n 51 0 dX15_isKept_50 rfl rfl rfl ?_
            refine r_ldcsw 54 5 dX15_isKept_51 q2401 rfl rfl rfl ?_
            refine r_callvI 57 (Mc := MTw_isWord P W) (o := 100) (as := [aR 75]) (st := []) dX15_isKept_54 rfl (c_Tw_isWord P W 75 G10) lkX15_355 (cmTw_isWord P W) rfl rfl rfl (fun _ => dsT_100 P W _) nn100 rfl (Nat.le_of_ble_eq_true rfl) (Nat.le_of_ble_eq_true rfl) (fun _ => rfl) rfl (fun z11 G12 => ?_)
            refine r_if_ne 130 60 dX15_isKept_57 rfl rfl ?_ ?_
            · refine r_iconst 131 1 dX15_isKept_130 rfl rfl ?_
              refine r_goto 135 dX15_isKept_131 rfl ?_
              exact r_zreturn dX15_isKept_135 rfl
            · refine r_aload_n 61 0 dX15_isKept_60 rfl rfl rfl ?_
              refine r_ldcsw 64 6 dX15_isKept_61 q2352 rfl rfl rfl ?_
              refine r_callvI 67 (Mc := MTw_isWord P W) (o := 100) (as := [aR 76]) (st := []) dX15_isKept_64 rfl (c_Tw_isWord P W 76 G12) lkX15_355 (cmTw_isWord P W) rfl rfl rfl (fun _ => dsT_100 P W _) nn100 rfl (Nat.le_of_ble_eq_true rfl) (Nat.le_of_ble_eq_true rfl) (fun _ => rfl) rfl (fun z13 G14 => ?_)
              refine r_if_ne 130 70 dX15_isKept_67 rfl rfl ?_ ?_
              · refine r_iconst 131 1 dX15_isKept_130 rfl rfl ?_
                refine r_goto 135 dX15_isKept_131 rfl ?_
                exact r_zreturn dX15_isKept_135 rfl
              · refine r_aload_n 71 0 dX15_isKept_70 rfl rfl rfl ?_
                refine r_ldcsw 74 7 dX15_isKept_71 q2335 rfl rfl rfl ?_
                refine r_callvI 77 (Mc := MTw_isWord P W) (o := 100) (as := [aR 77]) (st := []) dX15_isKept_74 rfl (c_Tw_isWord P W 77 G14) lkX15_355 (cmTw_isWord P W) rfl rfl rfl (fun _ => dsT_100 P W _) nn100 rfl (Nat.le_of_ble_eq_true rfl) (Nat.le_of_ble_eq_true rfl) (fun _ => rfl) rfl (fun z15 G16 => ?_)
                refine r_if_ne 130 80 dX15_isKept_77 rfl rfl ?_ ?_
                · refine r_iconst 131 1 dX15_isKept_130 rfl rfl ?_
                  refine r_goto 135 dX15_isKept_131 rfl ?_
                  exact r_zreturn dX15_isKept_135 rfl
                · refine r_aload_n 81 0 dX15_isKept_80 rfl rfl rfl ?_
                  refine r_ldcsw 84 8 dX15_isKept_81 q2402 rfl rfl rfl ?_
                  refine r_callvI 87 (Mc := MTw_isWord P W) (o := 100) (as := [aR 78]) (st := []) dX15_isKept_84 rfl (c_Tw_isWord P W 78 G16) lkX15_355 (cmTw_isWord P W) rfl rfl rfl (fun _ => dsT_100 P W _) nn100 rfl (Nat.le_of_ble_eq_true rfl) (Nat.le_of_ble_eq_true rfl) (fun _ => rfl) rfl (fun z17 G18 => ?_)
                  refine r_if_ne 130 90 dX15_isKept_87 rfl rfl ?_ ?_
                  · refine r_iconst 131 1 dX15_isKept_130 rfl rfl ?_
                    refine r_goto 135 dX15_isKept_131 rfl ?_
                    exact r_zreturn dX15_isKept_135 rfl
                  · refine r_aload_n 91 0 dX15_isKept_90 rfl rfl rfl ?_
                    refine r_ldcsw 94 9 dX15_isKept_91 q2386 rfl rfl rfl ?_
                    refine r_callvI 97 (Mc := MTw_isWord P W) (o := 100) (as := [aR 79]) (st := []) dX15_isKept_94 rfl (c_Tw_isWord P W 79 G18) lkX15_355 (cmTw_isWord P W) rfl rfl rfl (fun _ => dsT_100 P W _) nn100 rfl (Nat.le_of_ble_eq_true rfl) (Nat.le_of_ble_eq_true rfl) (fun _ => rfl) rfl (fun z19 G20 => ?_)
                    refine r_if_ne 130 100 dX15_isKept_97 rfl rfl ?_ ?_
                    · refine r_iconst 131 1 dX15_isKept_130 rfl rfl ?_
                      refine r_goto 135 dX15_isKept_131 rfl ?_
                      exact r_zreturn dX15_isKept_135 rfl
                    · refine r_aload_n 101 0 dX15_isKept_100 rfl rfl rfl ?_
                      refine r_ldcsw 104 10 dX15_isKept_101 q2387 rfl rfl rfl ?_
                      refine r_callvI 107 (Mc := MTw_isWord P W) (o := 100) (as := [aR 80]) (st := []) dX15_isKept_104 rfl (c_Tw_isWord P W 80 G20) lkX15_355 (cmTw_isWord P W) rfl rfl rfl (fun _ => dsT_100 P W _) nn100 rfl (Nat.le_of_ble_eq_true rfl) (Nat.le_of_ble_eq_true rfl) (fun _ => rfl) rfl (fun z21 G22 => ?_)
                      refine r_if_ne 130 110 dX15_isKept_107 rfl rfl ?_ ?_
                      · refine r_iconst 131 1 dX15_isKept_130 rfl rfl ?_
                        refine r_goto 135 dX15_isKept_131 rfl ?_
                        exact r_zreturn dX15_isKept_135 rfl
                      · refine r_aload_n 111 0 dX15_isKept_110 rfl rfl rfl ?_
                        refine r_ldcsw 114 11 dX15_isKept_111 q2384 rfl rfl rfl ?_
                        refine r_callvI 117 (Mc := MTw_isWord P W) (o := 100) (as := [aR 81]) (st := []) dX15_isKept_114 rfl (c_Tw_isWord P W 81 G22) lkX15_355 (cmTw_isWord P W) rfl rfl rfl (fun _ => dsT_100 P W _) nn100 rfl (Nat.le_of_ble_eq_true rfl) (Nat.le_of_ble_eq_true rfl) (fun _ => rfl) rfl (fun z23 G24 => ?_)
                        refine r_if_ne 130 120 dX15_isKept_117 rfl rfl ?_ ?_
                        · refine r_iconst 131 1 dX15_isKept_130 rfl rfl ?_
                          refine r_goto 135 dX15_isKept_131 rfl ?_
                          exact r_zreturn dX15_isKept_135 rfl
                        · refine r_aload_n 121 0 dX15_isKept_120 rfl rfl rfl ?_
                          refine r_ldcsw 124 12 dX15_isKept_121 q2385 rfl rfl rfl ?_
                          refine r_callvI 127 (Mc := MTw_isWord P W) (o := 100) (as := [aR 82]) (st := []) dX15_isKept_124 rfl (c_Tw_isWord P W 82 G24) lkX15_355 (cmTw_isWord P W) rfl rfl rfl (fun _ => dsT_100 P W _) nn100 rfl (Nat.le_of_ble_eq_true rfl) (Nat.le_of_ble_eq_true rfl) (fun _ => rfl) rfl (fun z25 G26 => ?_)
                          refine SS.phi (fun VV_ => ckB VV_ 2 (some (VV_, G26))) ?_
                          refine r_if_eq 134 130 dX15_isKept_127 rfl rfl ?_ ?_
                          · refine r_iconst 135 0 dX15_isKept_134 rfl rfl ?_
                            exact r_zreturn dX15_isKept_135 rfl
                          · refine r_iconst 131 1 dX15_isKept_130 rfl rfl ?_
                            refine r_goto 135 dX15_isKept_131 rfl ?_
                            exact r_zreturn dX15_isKept_135 rfl
theorem c_Tw_isKept (P W : Int) (G : St) : MG (MTw_isKept P W) [aR 100] G (Tw_isKept G) := MG.of plX15 (Nat.le_of_ble_eq_true rfl) (s_Tw_isKept P W G)
theorem s_Tw_name_b24 (P W : Int) (G : St) : SS (MTw_name P W) some 24 [(0, aR 100)] [] G (Tw_name_b24 G) := by
  refine r_aload_n 25 0 dX15_name_24 rfl rfl rfl ?_
  refine r_iconst 26 1 dX15_name_25 rfl rfl ?_
  refine r_aload_n 27 0 dX15_name_26 rfl rfl rfl ?_
  refine r_get 30 (aI (G 100 6)) dX15_name_27 fkX15_326 (fun _ => dsT_100 P W _) nn100 rfl rfl ?_
  refine r_callvV 33 (Mc := MTw_fail P W) (o := 100) (as := [aI 1, aI (G 100 6)]) (st := []) dX15_name_30 rfl (c_Tw_fail P W 1 (G 100 6) G) lkX15_390 (cmTw_fail P W) rfl rfl rfl (fun _ => dsT_100 P W _) nn100 rfl (Nat.le_of_ble_eq_true rfl) (Nat.le_of_ble_eq_true rfl) (fun _ => rfl) rfl (fun z5 G6 => ?_)
  refine r_iconst 34 0 dX15_name_33 rfl rfl ?_
  exact r_ireturn dX15_name_34 rfl
theorem s_Tw_name_b212 (P W : Int) (x1 : Int) (x3 : Int) (G : St) : SS (MTw_name P W) some 212 [(0, aR 100), (1, aI x1), (3, aI x3)] [] G (Tw_name_b212 x1 x3 G) := by
  refine r_aload_n 213 0 dX15_name_212 rfl rfl rfl ?_
  refine r_iload_n 214 1 dX15_name_213 rfl rfl rfl ?_
  refine r_putI 217 dX15_name_214 fkX15_326 (fun _ => dsT_100 P W _) nn100 rfl rfl ?_
  refine ss_tk (fun G9 => ?_)
  refine r_iload_n 218 2 dX15_name_217 rfl rfl rfl ?_
  exact r_ireturn dX15_name_218 rfl
theorem s_Tw_name_b171 (P W : Int) (x1 : Int) (x2 : Int) (x3 : Int) (G : St) : SS (MTw_name P W) some 171 [(0, aR 100), (1, aI x1), (2, aI x2), (3, aI x3)] [] G (Tw_name_b171 x1 x2 x3 G) := by
  refine r_iload_n 172 3 dX15_name_171 rfl rfl rfl ?_
  refine r_aload_n 173 0 dX15_name_172 rfl rfl rfl ?_
  refine r_get 176 (aI (G 100 9)) dX15_name_173 fkX15_393 (fun _ => dsT_100 P W _) nn100 rfl rfl ?_
  refine r_icmp_ne 212 179 dX15_name_176 rfl rfl ?_ ?_
  · refine r_to [0, 1, 3] [(0, aR 100), (1, aI x1), (3, aI x3)] rfl ?_
    exact s_Tw_name_b212 P W x1 x3 G
  · refine r_aload_n 180 0 dX15_name_179 rfl rfl rfl ?_
    refine r_get 183 (aR 111) dX15_name_180 fkX15_16 (fun _ => dsT_100 P W _) nn100 rfl rfl ?_
    refine r_aload_n 184 0 dX15_name_183 rfl rfl rfl ?_
    refine r_get 187 (aI (G 100 9)) dX15_name_184 fkX15_393 (fun _ => dsT_100 P W _) nn100 rfl rfl ?_
    refine r_aload_n 188 0 dX15_name_187 rfl rfl rfl ?_
    refine r_get 191 (aI (G 100 6)) dX15_name_188 fkX15_326 (fun _ => dsT_100 P W _) nn100 rfl rfl ?_
    refine r_iast 192 dX15_name_191 (fun _ _ _ => dsT_111 P W _) (fun _ _ => nn111) rfl ?_
    refine ss_tk (fun G10 => ?_)
    refine r_aload_n 193 0 dX15_name_192 rfl rfl rfl ?_
    refine r_get 196 (aR 112) dX15_name_193 fkX15_19 (fun _ => dsT_100 P W _) nn100 rfl rfl ?_
    refine r_aload_n 197 0 dX15_name_196 rfl rfl rfl ?_
    refine r_get 200 (aI (G10 100 9)) dX15_name_197 fkX15_393 (fun _ => dsT_100 P W _) nn100 rfl rfl ?_
    refine r_iload_n 201 2 dX15_name_200 rfl rfl rfl ?_
    refine r_iast 202 dX15_name_201 (fun _ _ _ => dsT_112 P W _) (fun _ _ => nn112) rfl ?_
    refine ss_tk (fun G11 => ?_)
    refine r_aload_n 203 0 dX15_name_202 rfl rfl rfl ?_
    refine r_dup 204 dX15_name_203 rfl rfl ?_
    refine r_get 207 (aI (G11 100 9)) dX15_name_204 fkX15_393 (fun _ => dsT_100 P W _) nn100 rfl rfl ?_
    refine r_iconst 208 1 dX15_name_207 rfl rfl ?_
    refine r_iadd 209 dX15_name_208 rfl ?_
    refine r_putI 212 dX15_name_209 fkX15_393 (fun _ => dsT_100 P W _) nn100 rfl rfl ?_
    refine ss_tk (fun G12 => ?_)
    refine r_to [0, 1, 3] [(0, aR 100), (1, aI x1), (3, aI x3)] rfl ?_
    exact s_Tw_name_b212 P W x1 x3 G12
theorem s_Tw_name_b166 (P W : Int) (x1 : Int) (x2 : Int) (X69 : Int × Int × St → Option (Int × St)) (hX69 : ∀ s, So (MTw_name P W) 69 [(0, aR 100), (1, aI x1), (2, aI x2), (3, aI (s.1)), (4, aI (s.2.1))] [] s.2.2 (X69 s)) (x4 : Int) (s0 : Int) (s1 : Int) (G : St) : SS (MTw_name P W) (lk X69 some) 166 [(0, aR 100), (1, aI x1), (2, aI x2), (4, aI x4)] [aI s0, aI s1] G (Tw_name_b166 x1 x2 x4 s0 s1 G) := by
  refine r_iadd 167 dX15_name_166 rfl ?_
  refine r_istore_n 168 [(3, aI (s1 + s0)), (0, aR 100), (1, aI x1), (2, aI x2), (4, aI x4)] dX15_name_167 rfl rfl rfl rfl ?_
  refine r_goto 69 dX15_name_168 rfl ?_
  refine r_to [1, 2, 3, 0, 4] [(0, aR 100), (1, aI x1), (2, aI x2), (3, aI (s1 + s0)), (4, aI x4)] rfl ?_
  exact SS.back (hX69 (s1 + s0, x4, G))
theorem s_Tw_name_b155 (P W : Int) (x1 : Int) (x2 : Int) (X69 : Int × Int × St → Option (Int × St)) (hX69 : ∀ s, So (MTw_name P W) 69 [(0, aR 100), (1, aI x1), (2, aI x2), (3, aI (s.1)), (4, aI (s.2.1))] [] s.2.2 (X69 s)) (x3 : Int) (x4 : Int) (G : St) : SS (MTw_name P W) (lk X69 some) 155 [(0, aR 100), (1, aI x1), (2, aI x2), (3, aI x3), (4, aI x4)] [] G (Tw_name_b155 x1 x2 x3 x4 G) := by
  refine r_iload_n 156 3 dX15_name_155 rfl rfl rfl ?_
  refine r_iload 158 4 dX15_name_156 rfl rfl ?_
  refine SS.phi (fun VV_ => Tw_name_b166 x1 x2 x4 VV_ x3 G) ?_
  refine r_if_eq 165 161 dX15_name_158 rfl rfl ?_ ?_
  · refine r_iconst 166 1 dX15_name_165 rfl rfl ?_
    refine r_to [0, 1, 2, 4] [(0, aR 100), (1, aI x1), (2, aI x2), (4, aI x4)] rfl ?_
    exact s_Tw_name_b166 P W x1 x2 X69 hX69 x4 1 x3 G
  · refine r_iconst 162 0 dX15_name_161 rfl rfl ?_
    refine r_goto 166 dX15_name_162 rfl ?_
    refine r_to [0, 1, 2, 4] [(0, aR 100), (1, aI x1), (2, aI x2), (4, aI x4)] rfl ?_
    exact s_Tw_name_b166 P W x1 x2 X69 hX69 x4 0 x3 G
theorem s_Tw_name_b147 (P W : Int) (x1 : Int) (x2 : Int) (X69 : Int × Int × St → Option (Int × St)) (hX69 : ∀ s, So (MTw_name P W) 69 [(0, aR 100), (1, aI x1), (2, aI x2), (3, aI (s.1)), (4, aI (s.2.1))] [] s.2.2 (X69 s)) (x3 : Int) (X102 : Int × Int × St → Option (Int × St)) (hX102 : ∀ s, So (MTw_name P W) 102 [(0, aR 100), (1, aI x1), (2, aI x2), (3, aI x3), (4, aI (s.1)), (5, aI (s.2.1))] [] s.2.2 (X102 s)) (x5 : Int) (s0 : Int) (G : St) : SS (MTw_name P W) (lk X102 (lk X69 some)) 147 [(0, aR 100), (1, aI x1), (2, aI x2), (3, aI x3), (5, aI x5)] [aI s0] G (Tw_name_b147 x1 x2 x3 x5 s0 G) := by
  refine r_istore 149 [(4, aI s0), (0, aR 100), (1, aI x1), (2, aI x2), (3, aI x3), (5, aI x5)] dX15_name_147 rfl rfl rfl ?_
  refine r_iinc 152 [(5, aI (x5 + 1)), (4, aI s0), (0, aR 100), (1, aI x1), (2, aI x2), (3, aI x3)] 5 dX15_name_149 rfl rfl rfl rfl ?_
  refine r_goto 102 dX15_name_152 rfl ?_
  refine r_to [2, 3, 4, 5, 1, 0] [(0, aR 100), (1, aI x1), (2, aI x2), (3, aI x3), (4, aI s0), (5, aI (x5 + 1))] rfl ?_
  exact SS.back (hX102 (s0, x5 + 1, G))
theorem s_Tw_name_s102 (P W : Int) (x1 : Int) (x2 : Int) (X69 : Int × Int × St → Option (Int × St)) (hX69 : ∀ s, So (MTw_name P W) 69 [(0, aR 100), (1, aI x1), (2, aI x2), (3, aI (s.1)), (4, aI (s.2.1))] [] s.2.2 (X69 s)) (x3 : Int) (X102 : Int × Int × St → Option (Int × St)) (hX102 : ∀ s, So (MTw_name P W) 102 [(0, aR 100), (1, aI x1), (2, aI x2), (3, aI x3), (4, aI (s.1)), (5, aI (s.2.1))] [] s.2.2 (X102 s)) (x4 : Int) (x5 : Int) (G : St) : SS (MTw_name P W) (lk X102 (lk X69 some)) 102 [(0, aR 100), (1, aI x1), (2, aI x2), (3, aI x3), (4, aI x4), (5, aI x5)] [] G (Tw_name_s102 x1 x2 x3 x4 x5 G) := by
  refine r_iload 104 4 dX15_name_102 rfl rfl ?_
  refine r_if_eq 155 107 dX15_name_104 rfl rfl ?_ ?_
  · refine SS.ex ?_
    refine r_to [0, 1, 2, 3, 4] [(0, aR 100), (1, aI x1), (2, aI x2), (3, aI x3), (4, aI x4)] rfl ?_
    exact s_Tw_name_b155 P W x1 x2 X69 hX69 x3 x4 G
  · refine r_iload 109 5 dX15_name_107 rfl rfl ?_
    refine r_iload_n 110 2 dX15_name_109 rfl rfl rfl ?_
    refine r_icmp_ge 155 113 dX15_name_110 rfl rfl ?_ ?_
    · refine SS.ex ?_
      refine r_to [0, 1, 2, 3, 4] [(0, aR 100), (1, aI x1), (2, aI x2), (3, aI x3), (4, aI x4)] rfl ?_
      exact s_Tw_name_b155 P W x1 x2 X69 hX69 x3 x4 G
    · refine r_aload_n 114 0 dX15_name_113 rfl rfl rfl ?_
      refine r_get 117 (aR 105) dX15_name_114 fkX15_13 (fun _ => dsT_100 P W _) nn100 rfl rfl ?_
      refine r_aload_n 118 0 dX15_name_117 rfl rfl rfl ?_
      refine r_get 121 (aR 111) dX15_name_118 fkX15_16 (fun _ => dsT_100 P W _) nn100 rfl rfl ?_
      refine r_iload_n 122 3 dX15_name_121 rfl rfl rfl ?_
      refine r_iald 123 dX15_name_122 (fun _ _ _ => dsT_111 P W _) (fun _ _ => nn111) rfl ?_
      refine r_iload 125 5 dX15_name_123 rfl rfl ?_
      refine r_iadd 126 dX15_name_125 rfl ?_
      refine r_iald 127 dX15_name_126 (fun _ _ _ => dsT_105 P W _) (fun _ _ => nn105) rfl ?_
      refine r_aload_n 128 0 dX15_name_127 rfl rfl rfl ?_
      refine r_get 131 (aR 105) dX15_name_128 fkX15_13 (fun _ => dsT_100 P W _) nn100 rfl rfl ?_
      refine r_aload_n 132 0 dX15_name_131 rfl rfl rfl ?_
      refine r_get 135 (aI (G 100 6)) dX15_name_132 fkX15_326 (fun _ => dsT_100 P W _) nn100 rfl rfl ?_
      refine r_iload 137 5 dX15_name_135 rfl rfl ?_
      refine r_iadd 138 dX15_name_137 rfl ?_
      refine r_iald 139 dX15_name_138 (fun _ _ _ => dsT_105 P W _) (fun _ _ => nn105) rfl ?_
      refine SS.phi (fun VV_ => Tw_name_b147 x1 x2 x3 x5 VV_ G) ?_
      refine r_icmp_ne 146 142 dX15_name_139 rfl rfl ?_ ?_
      · refine r_iconst 147 0 dX15_name_146 rfl rfl ?_
        refine r_to [0, 1, 2, 3, 5] [(0, aR 100), (1, aI x1), (2, aI x2), (3, aI x3), (5, aI x5)] rfl ?_
        exact s_Tw_name_b147 P W x1 x2 X69 hX69 x3 X102 hX102 x5 0 G
      · refine r_iconst 143 1 dX15_name_142 rfl rfl ?_
        refine r_goto 147 dX15_name_143 rfl ?_
        refine r_to [0, 1, 2, 3, 5] [(0, aR 100), (1, aI x1), (2, aI x2), (3, aI x3), (5, aI x5)] rfl ?_
        exact s_Tw_name_b147 P W x1 x2 X69 hX69 x3 X102 hX102 x5 1 G
theorem sl_Tw_name_102 (P W : Int) (x1 : Int) (x2 : Int) (X69 : Int × Int × St → Option (Int × St)) (hX69 : ∀ s, So (MTw_name P W) 69 [(0, aR 100), (1, aI x1), (2, aI x2), (3, aI (s.1)), (4, aI (s.2.1))] [] s.2.2 (X69 s)) (x3 : Int) (x4 : Int) (x5 : Int) (G : St) : SS (MTw_name P W) (lk X69 some) 102 [(0, aR 100), (1, aI x1), (2, aI x2), (3, aI x3), (4, aI x4), (5, aI x5)] [] G (Tw_name_l102 x1 x2 x3 x4 x5 G) := by
  exact SS.loop (σ := Int × Int × St) (fun s => [(0, aR 100), (1, aI x1), (2, aI x2), (3, aI x3), (4, aI (s.1)), (5, aI (s.2.1))]) (fun s => s.2.2) (fun s => Tw_name_s102 x1 x2 x3 s.1 s.2.1 s.2.2) (fun X102 hX102 s => s_Tw_name_s102 P W x1 x2 X69 hX69 x3  X102 hX102 s.1 s.2.1 s.2.2) (x4, x5, G)
theorem s_Tw_name_b97 (P W : Int) (x1 : Int) (x2 : Int) (X69 : Int × Int × St → Option (Int × St)) (hX69 : ∀ s, So (MTw_name P W) 69 [(0, aR 100), (1, aI x1), (2, aI x2), (3, aI (s.1)), (4, aI (s.2.1))] [] s.2.2 (X69 s)) (x3 : Int) (s0 : Int) (G : St) : SS (MTw_name P W) (lk X69 some) 97 [(0, aR 100), (1, aI x1), (2, aI x2), (3, aI x3)] [aI s0] G (Tw_name_b97 x1 x2 x3 s0 G) := by
  refine r_istore 99 [(4, aI s0), (0, aR 100), (1, aI x1), (2, aI x2), (3, aI x3)] dX15_name_97 rfl rfl rfl ?_
  refine r_iconst 100 0 dX15_name_99 rfl rfl ?_
  refine r_istore 102 [(5, aI 0), (4, aI s0), (0, aR 100), (1, aI x1), (2, aI x2), (3, aI x3)] dX15_name_100 rfl rfl rfl ?_
  refine r_to [2, 3, 4, 5, 1, 0] [(0, aR 100), (1, aI x1), (2, aI x2), (3, aI x3), (4, aI s0), (5, aI 0)] rfl ?_
  exact sl_Tw_name_102 P W x1 x2 X69 hX69 x3 s0 0 G
theorem s_Tw_name_s69 (P W : Int) (x1 : Int) (x2 : Int) (X69 : Int × Int × St → Option (Int × St)) (hX69 : ∀ s, So (MTw_name P W) 69 [(0, aR 100), (1, aI x1), (2, aI x2), (3, aI (s.1)), (4, aI (s.2.1))] [] s.2.2 (X69 s)) (x3 : Int) (x4 : Int) (G : St) : SS (MTw_name P W) (lk X69 some) 69 [(0, aR 100), (1, aI x1), (2, aI x2), (3, aI x3), (4, aI x4)] [] G (Tw_name_s69 x1 x2 x3 x4 G) := by
  refine r_iload_n 70 3 dX15_name_69 rfl rfl rfl ?_
  refine r_aload_n 71 0 dX15_name_70 rfl rfl rfl ?_
  refine r_get 74 (aI (G 100 9)) dX15_name_71 fkX15_393 (fun _ => dsT_100 P W _) nn100 rfl rfl ?_
  refine r_icmp_ge 171 77 dX15_name_74 rfl rfl ?_ ?_
  · refine SS.ex ?_
    refine r_to [0, 1, 2, 3] [(0, aR 100), (1, aI x1), (2, aI x2), (3, aI x3)] rfl ?_
    exact s_Tw_name_b171 P W x1 x2 x3 G
  · refine r_iload 79 4 dX15_name_77 rfl rfl ?_
    refine r_if_ne 171 82 dX15_name_79 rfl rfl ?_ ?_
    · refine SS.ex ?_
      refine r_to [0, 1, 2, 3] [(0, aR 100), (1, aI x1), (2, aI x2), (3, aI x3)] rfl ?_
      exact s_Tw_name_b171 P W x1 x2 x3 G
    · refine r_aload_n 83 0 dX15_name_82 rfl rfl rfl ?_
      refine r_get 86 (aR 112) dX15_name_83 fkX15_19 (fun _ => dsT_100 P W _) nn100 rfl rfl ?_
      refine r_iload_n 87 3 dX15_name_86 rfl rfl rfl ?_
      refine r_iald 88 dX15_name_87 (fun _ _ _ => dsT_112 P W _) (fun _ _ => nn112) rfl ?_
      refine r_iload_n 89 2 dX15_name_88 rfl rfl rfl ?_
      refine SS.phi (fun VV_ => Tw_name_b97 x1 x2 x3 VV_ G) ?_
      refine r_icmp_ne 96 92 dX15_name_89 rfl rfl ?_ ?_
      · refine r_iconst 97 0 dX15_name_96 rfl rfl ?_
        refine r_to [0, 1, 2, 3] [(0, aR 100), (1, aI x1), (2, aI x2), (3, aI x3)] rfl ?_
        exact s_Tw_name_b97 P W x1 x2 X69 hX69 x3 0 G
      · refine r_iconst 93 1 dX15_name_92 rfl rfl ?_
        refine r_goto 97 dX15_name_93 rfl ?_
        refine r_to [0, 1, 2, 3] [(0, aR 100), (1, aI x1), (2, aI x2), (3, aI x3)] rfl ?_
        exact s_Tw_name_b97 P W x1 x2 X69 hX69 x3 1 G
theorem sl_Tw_name_69 (P W : Int) (x1 : Int) (x2 : Int) (x3 : Int) (x4 : Int) (G : St) : SS (MTw_name P W) some 69 [(0, aR 100), (1, aI x1), (2, aI x2), (3, aI x3), (4, aI x4)] [] G (Tw_name_l69 x1 x2 x3 x4 G) := by
  exact SS.loop (σ := Int × Int × St) (fun s => [(0, aR 100), (1, aI x1), (2, aI x2), (3, aI (s.1)), (4, aI (s.2.1))]) (fun s => s.2.2) (fun s => Tw_name_s69 x1 x2 s.1 s.2.1 s.2.2) (fun X69 hX69 s => s_Tw_name_s69 P W x1 x2  X69 hX69 s.1 s.2.1 s.2.2) (x3, x4, G)
theorem s_Tw_name (P W : Int) (G : St) : SS (MTw_name P W) some 0 [(0, aR 100)] [] G (Tw_name G) := by
  refine r_aload_n 1 0 dX15_name_0 rfl rfl rfl ?_
  refine r_callvV 4 (Mc := MTw_gap P W) (o := 100) (as := []) (st := []) dX15_name_1 rfl (c_Tw_gap P W G) lkX15_383 (cmTw_gap P W) rfl rfl rfl (fun _ => dsT_100 P W _) nn100 rfl (Nat.le_of_ble_eq_true rfl) (Nat.le_of_ble_eq_true rfl) (fun _ => rfl) rfl (fun z1 G2 => ?_)
  refine r_aload_n 5 0 dX15_name_4 rfl rfl rfl ?_
  refine r_callvI 8 (Mc := MTw_wordEnd P W) (o := 100) (as := []) (st := []) dX15_name_5 rfl (c_Tw_wordEnd P W G2) lkX15_340 (cmTw_wordEnd P W) rfl rfl rfl (fun _ => dsT_100 P W _) nn100 rfl (Nat.le_of_ble_eq_true rfl) (Nat.le_of_ble_eq_true rfl) (fun _ => rfl) rfl (fun z3 G4 => ?_)
  refine r_istore_n 9 [(1, aI z3), (0, aR 100)] dX15_name_8 rfl rfl rfl rfl ?_
  refine r_iload_n 10 0 dX15_name_9 rfl rfl rfl ?_
  refine r_aload_n 11 1 dX15_name_10 rfl rfl rfl ?_
  refine r_get 14 (aI (G4 100 6)) dX15_name_11 fkX15_326 (fun _ => dsT_100 P W _) nn100 rfl rfl ?_
  refine r_icmp_eq 24 17 dX15_name_14 rfl rfl ?_ ?_
  · refine r_to [1] [(0, aR 100)] rfl ?_
    exact s_Tw_name_b24 P W G4
  · refine r_aload_n 18 1 dX15_name_17 rfl rfl rfl ?_
    refine r_callvI 21 (Mc := MTw_isKept P W) (o := 100) (as := []) (st := []) dX15_name_18 rfl (c_Tw_isKept P W G4) lkX15_386 (cmTw_isKept P W) rfl rfl rfl (fun _ => dsT_100 P W _) nn100 rfl (Nat.le_of_ble_eq_true rfl) (Nat.le_of_ble_eq_true rfl) (fun _ => rfl) rfl (fun z7 G8 => ?_)
    refine r_if_eq 35 24 dX15_name_21 rfl rfl ?_ ?_
    · refine r_iload_n 36 0 dX15_name_35 rfl rfl rfl ?_
      refine r_aload_n 37 1 dX15_name_36 rfl rfl rfl ?_
      refine r_get 40 (aI (G8 100 6)) dX15_name_37 fkX15_326 (fun _ => dsT_100 P W _) nn100 rfl rfl ?_
      refine r_isub 41 dX15_name_40 rfl ?_
      refine r_bipush 43 16 dX15_name_41 rfl rfl ?_
      refine r_icmp_le 57 46 dX15_name_43 rfl rfl ?_ ?_
      · refine r_iload_n 58 0 dX15_name_57 rfl rfl rfl ?_
        refine r_aload_n 59 1 dX15_name_58 rfl rfl rfl ?_
        refine r_get 62 (aI (G8 100 6)) dX15_name_59 fkX15_326 (fun _ => dsT_100 P W _) nn100 rfl rfl ?_
        refine r_isub 63 dX15_name_62 rfl ?_
        refine r_istore_n 64 [(2, aI (z3 - (G8 100 6))), (1, aI z3), (0, aR 100)] dX15_name_63 rfl rfl rfl rfl ?_
        refine r_iconst 65 0 dX15_name_64 rfl rfl ?_
        refine r_istore_n 66 [(3, aI 0), (2, aI (z3 - (G8 100 6))), (1, aI z3), (0, aR 100)] dX15_name_65 rfl rfl rfl rfl ?_
        refine r_iconst 67 0 dX15_name_66 rfl rfl ?_
        refine r_istore 69 [(4, aI 0), (3, aI 0), (2, aI (z3 - (G8 100 6))), (1, aI z3), (0, aR 100)] dX15_name_67 rfl rfl rfl ?_
        refine r_to [4, 3, 2, 1, 0] [(0, aR 100), (1, aI z3), (2, aI (z3 - (G8 100 6))), (3, aI 0), (4, aI 0)] rfl ?_
        exact sl_Tw_name_69 P W z3 (z3 - (G8 100 6)) 0 0 G8
      · refine r_aload_n 47 1 dX15_name_46 rfl rfl rfl ?_
        refine r_iconst 48 2 dX15_name_47 rfl rfl ?_
        refine r_aload_n 49 1 dX15_name_48 rfl rfl rfl ?_
        refine r_get 52 (aI (G8 100 6)) dX15_name_49 fkX15_326 (fun _ => dsT_100 P W _) nn100 rfl rfl ?_
        refine r_callvV 55 (Mc := MTw_fail P W) (o := 100) (as := [aI 2, aI (G8 100 6)]) (st := []) dX15_name_52 rfl (c_Tw_fail P W 2 (G8 100 6) G8) lkX15_390 (cmTw_fail P W) rfl rfl rfl (fun _ => dsT_100 P W _) nn100 rfl (Nat.le_of_ble_eq_true rfl) (Nat.le_of_ble_eq_true rfl) (fun _ => rfl) rfl (fun z13 G14 => ?_)
        refine r_iconst 56 0 dX15_name_55 rfl rfl ?_
        exact r_ireturn dX15_name_56 rfl
    · refine r_to [1] [(0, aR 100)] rfl ?_
      exact s_Tw_name_b24 P W G8
theorem c_Tw_name (P W : Int) (G : St) : MG (MTw_name P W) [aR 100] G (Tw_name G) := MG.of plX15 (Nat.le_of_ble_eq_true rfl) (s_Tw_name P W G)
theorem s_Tw_number_b143 (P W : Int) (x5 : Int) (G : St) : SS (MTw_number P W) some 143 [(0, aR 100), (5, aI x5)] [] G (Tw_number_b143 x5 G) := by
  refine r_aload_n 144 0 dX15_number_143 rfl rfl rfl ?_
  refine r_iconst 145 2 dX15_number_144 rfl rfl ?_
  refine r_iload 147 1 dX15_number_145 rfl rfl ?_
  refine r_callvV 150 (Mc := MTw_fail P W) (o := 100) (as := [aI 2, aI x5]) (st := []) dX15_number_147 rfl (c_Tw_fail P W 2 x5 G) lkX15_390 (cmTw_fail P W) rfl rfl rfl (fun _ => dsT_100 P W _) nn100 rfl (Nat.le_of_ble_eq_true rfl) (Nat.le_of_ble_eq_true rfl) (fun _ => rfl) rfl (fun z12 G13 => ?_)
  exact r_return dX15_number_150 rfl
theorem s_Tw_number_b86 (P W : Int) (x1 : Int) (x3 : Int) (x5 : Int) (X36 : St → Option (Int × St)) (hX36 : ∀ s, So (MTw_number P W) 36 [(0, aR 100), (1, aL x1), (3, aL x3), (5, aI x5)] [] s (X36 s)) (s0 : Int) (G : St) : SS (MTw_number P W) (lk X36 some) 86 [(0, aR 100), (1, aL x1), (3, aL x3), (5, aI x5)] [aL s0, aR 100] G (Tw_number_b86 x1 x3 x5 s0 G) := by
  refine r_putL 89 dX15_number_86 fkX15_396 (fun _ => dsT_100 P W _) nn100 rfl rfl ?_
  refine ss_tk (fun G14 => ?_)
  refine r_aload_n 90 0 dX15_number_89 rfl rfl rfl ?_
  refine r_dup 91 dX15_number_90 rfl rfl ?_
  refine r_get 94 (aI (G14 100 6)) dX15_number_91 fkX15_326 (fun _ => dsT_100 P W _) nn100 rfl rfl ?_
  refine r_iconst 95 1 dX15_number_94 rfl rfl ?_
  refine r_iadd 96 dX15_number_95 rfl ?_
  refine r_putI 99 dX15_number_96 fkX15_326 (fun _ => dsT_100 P W _) nn100 rfl rfl ?_
  refine ss_tk (fun G15 => ?_)
  refine r_goto 36 dX15_number_99 rfl ?_
  exact SS.back (hX36 (G15))
theorem s_Tw_number_s36 (P W : Int) (x1 : Int) (x3 : Int) (x5 : Int) (X36 : St → Option (Int × St)) (hX36 : ∀ s, So (MTw_number P W) 36 [(0, aR 100), (1, aL x1), (3, aL x3), (5, aI x5)] [] s (X36 s)) (G : St) : SS (MTw_number P W) (lk X36 some) 36 [(0, aR 100), (1, aL x1), (3, aL x3), (5, aI x5)] [] G (Tw_number_s36 x1 x3 x5 G) := by
  refine r_aload_n 37 0 dX15_number_36 rfl rfl rfl ?_
  refine r_iconst 38 0 dX15_number_37 rfl rfl ?_
  refine r_callvI 41 (Mc := MTw_look0 P W) (o := 100) (as := [aI 0]) (st := []) dX15_number_38 rfl (c_Tw_look0 P W 0 G) lkX15_329 (cmTw_look0 P W) rfl rfl rfl (fun _ => dsT_100 P W _) nn100 rfl (Nat.le_of_ble_eq_true rfl) (Nat.le_of_ble_eq_true rfl) (fun _ => rfl) rfl (fun z8 G9 => ?_)
  refine r_callsI 44 (Mc := MTw_isDigit P W) (as := [aI z8]) (st := []) dX15_number_41 rfl (c_Tw_isDigit P W z8 G9) q2347 (cmTw_isDigit P W) rfl rfl rfl (Nat.le_of_ble_eq_true rfl) (Nat.le_of_ble_eq_true rfl) (fun _ => rfl) rfl (fun z10 G11 => ?_)
  refine r_if_eq 102 47 dX15_number_44 rfl rfl ?_ ?_
  · refine SS.ex ?_
    refine r_aload_n 103 0 dX15_number_102 rfl rfl rfl ?_
    refine r_get 106 (aI (G11 100 6)) dX15_number_103 fkX15_326 (fun _ => dsT_100 P W _) nn100 rfl rfl ?_
    refine r_iload 108 3 dX15_number_106 rfl rfl ?_
    refine r_isub 109 dX15_number_108 rfl ?_
    refine r_bipush 111 10 dX15_number_109 rfl rfl ?_
    refine r_icmp_gt 143 114 dX15_number_111 rfl rfl ?_ ?_
    · refine r_to [0, 3] [(0, aR 100), (5, aI x5)] rfl ?_
      exact s_Tw_number_b143 P W x5 G11
    · refine r_aload_n 115 0 dX15_number_114 rfl rfl rfl ?_
      refine r_get 118 (aL (G11 100 12)) dX15_number_115 fkX15_396 (fun _ => dsT_100 P W _) nn100 rfl rfl ?_
      refine r_ldc2 121 4294967295 dX15_number_118 q2377 (by decide) rfl rfl ?_
      refine r_lif_gt 122 143 125 dX15_number_121 rfl dX15_number_122 rfl rfl ?_ ?_
      · refine r_to [0, 3] [(0, aR 100), (5, aI x5)] rfl ?_
        exact s_Tw_number_b143 P W x5 G11
      · refine r_aload_n 126 0 dX15_number_125 rfl rfl rfl ?_
        refine r_get 129 (aL (G11 100 12)) dX15_number_126 fkX15_396 (fun _ => dsT_100 P W _) nn100 rfl rfl ?_
        refine r_lload_n 130 1 dX15_number_129 rfl rfl rfl ?_
        refine r_lif_lt 131 143 134 dX15_number_130 rfl dX15_number_131 rfl rfl ?_ ?_
        · refine r_to [0, 3] [(0, aR 100), (5, aI x5)] rfl ?_
          exact s_Tw_number_b143 P W x5 G11
        · refine r_aload_n 135 0 dX15_number_134 rfl rfl rfl ?_
          refine r_get 138 (aL (G11 100 12)) dX15_number_135 fkX15_396 (fun _ => dsT_100 P W _) nn100 rfl rfl ?_
          refine r_lload_n 139 2 dX15_number_138 rfl rfl rfl ?_
          refine r_lif_le 140 150 143 dX15_number_139 rfl dX15_number_140 rfl rfl ?_ ?_
          · exact r_return dX15_number_150 rfl
          · refine r_to [0, 3] [(0, aR 100), (5, aI x5)] rfl ?_
            exact s_Tw_number_b143 P W x5 G11
  · refine r_aload_n 48 0 dX15_number_47 rfl rfl rfl ?_
    refine r_aload_n 49 0 dX15_number_48 rfl rfl rfl ?_
    refine r_get 52 (aI (G11 100 6)) dX15_number_49 fkX15_326 (fun _ => dsT_100 P W _) nn100 rfl rfl ?_
    refine r_iload 54 3 dX15_number_52 rfl rfl ?_
    refine r_isub 55 dX15_number_54 rfl ?_
    refine r_bipush 57 10 dX15_number_55 rfl rfl ?_
    refine r_icmp_ge 82 60 dX15_number_57 rfl rfl ?_ ?_
    · refine r_aload_n 83 0 dX15_number_82 rfl rfl rfl ?_
      refine r_get 86 (aL (G11 100 12)) dX15_number_83 fkX15_396 (fun _ => dsT_100 P W _) nn100 rfl rfl ?_
      exact s_Tw_number_b86 P W x1 x3 x5 X36 hX36 (G11 100 12) G11
    · refine r_ldc2 63 10 dX15_number_60 q2382 (by decide) rfl rfl ?_
      refine r_aload_n 64 0 dX15_number_63 rfl rfl rfl ?_
      refine r_get 67 (aL (G11 100 12)) dX15_number_64 fkX15_396 (fun _ => dsT_100 P W _) nn100 rfl rfl ?_
      refine r_lmul 68 dX15_number_67 rfl ?_
      refine r_aload_n 69 0 dX15_number_68 rfl rfl rfl ?_
      refine r_iconst 70 0 dX15_number_69 rfl rfl ?_
      refine r_callvI 73 (Mc := MTw_look0 P W) (o := 100) (as := [aI 0]) (st := [aL (10 * (G11 100 12)), aR 100]) dX15_number_70 rfl (c_Tw_look0 P W 0 G11) lkX15_329 (cmTw_look0 P W) rfl rfl rfl (fun _ => dsT_100 P W _) nn100 rfl (Nat.le_of_ble_eq_true rfl) (Nat.le_of_ble_eq_true rfl) (fun _ => rfl) rfl (fun z16 G17 => ?_)
      refine r_i2l 74 dX15_number_73 rfl ?_
      refine r_ladd 75 dX15_number_74 rfl ?_
      refine r_ldc2 78 48 dX15_number_75 q2383 (by decide) rfl rfl ?_
      refine r_lsub 79 dX15_number_78 rfl ?_
      refine r_goto 86 dX15_number_79 rfl ?_
      exact s_Tw_number_b86 P W x1 x3 x5 X36 hX36 (((10 * (G11 100 12)) + z16) - 48) G17
theorem sl_Tw_number_36 (P W : Int) (x1 : Int) (x3 : Int) (x5 : Int) (G : St) : SS (MTw_number P W) some 36 [(0, aR 100), (1, aL x1), (3, aL x3), (5, aI x5)] [] G (Tw_number_l36 x1 x3 x5 G) := by
  exact SS.loop (σ := St) (fun s => [(0, aR 100), (1, aL x1), (3, aL x3), (5, aI x5)]) (fun s => s) (fun s => Tw_number_s36 x1 x3 x5 s) (fun X36 hX36 s => s_Tw_number_s36 P W x1 x3 x5  X36 hX36 s) (G)
theorem s_Tw_number (P W : Int) (x1 : Int) (x3 : Int) (G : St) : SS (MTw_number P W) some 0 [(0, aR 100), (1, aL x1), (3, aL x3)] [] G (Tw_number x1 x3 G) := by
  refine r_aload_n 1 0 dX15_number_0 rfl rfl rfl ?_
  refine r_callvV 4 (Mc := MTw_gap P W) (o := 100) (as := []) (st := []) dX15_number_1 rfl (c_Tw_gap P W G) lkX15_383 (cmTw_gap P W) rfl rfl rfl (fun _ => dsT_100 P W _) nn100 rfl (Nat.le_of_ble_eq_true rfl) (Nat.le_of_ble_eq_true rfl) (fun _ => rfl) rfl (fun z1 G2 => ?_)
  refine r_aload_n 5 0 dX15_number_4 rfl rfl rfl ?_
  refine r_get 8 (aI (G2 100 6)) dX15_number_5 fkX15_326 (fun _ => dsT_100 P W _) nn100 rfl rfl ?_
  refine r_istore 10 [(5, aI (G2 100 6)), (0, aR 100), (1, aL x1), (3, aL x3)] dX15_number_8 rfl rfl rfl ?_
  refine r_aload_n 11 1 dX15_number_10 rfl rfl rfl ?_
  refine r_iconst 12 0 dX15_number_11 rfl rfl ?_
  refine r_callvI 15 (Mc := MTw_look0 P W) (o := 100) (as := [aI 0]) (st := []) dX15_number_12 rfl (c_Tw_look0 P W 0 G2) lkX15_329 (cmTw_look0 P W) rfl rfl rfl (fun _ => dsT_100 P W _) nn100 rfl (Nat.le_of_ble_eq_true rfl) (Nat.le_of_ble_eq_true rfl) (fun _ => rfl) rfl (fun z3 G4 => ?_)
  refine r_callsI 18 (Mc := MTw_isDigit P W) (as := [aI z3]) (st := []) dX15_number_15 rfl (c_Tw_isDigit P W z3 G4) q2347 (cmTw_isDigit P W) rfl rfl rfl (Nat.le_of_ble_eq_true rfl) (Nat.le_of_ble_eq_true rfl) (fun _ => rfl) rfl (fun z5 G6 => ?_)
  refine r_if_ne 31 21 dX15_number_18 rfl rfl ?_ ?_
  · refine r_aload_n 32 1 dX15_number_31 rfl rfl rfl ?_
    refine r_lconst 33 0 dX15_number_32 rfl rfl rfl ?_
    refine r_putL 36 dX15_number_33 fkX15_396 (fun _ => dsT_100 P W _) nn100 rfl rfl ?_
    refine ss_tk (fun G7 => ?_)
    refine r_to [1, 2, 3, 0] [(0, aR 100), (1, aL x1), (3, aL x3), (5, aI (G2 100 6))] rfl ?_
    exact sl_Tw_number_36 P W x1 x3 (G2 100 6) G7
  · refine r_aload_n 22 1 dX15_number_21 rfl rfl rfl ?_
    refine r_iconst 23 1 dX15_number_22 rfl rfl ?_
    refine r_aload_n 24 1 dX15_number_23 rfl rfl rfl ?_
    refine r_get 27 (aI (G6 100 6)) dX15_number_24 fkX15_326 (fun _ => dsT_100 P W _) nn100 rfl rfl ?_
    refine r_callvV 30 (Mc := MTw_fail P W) (o := 100) (as := [aI 1, aI (G6 100 6)]) (st := []) dX15_number_27 rfl (c_Tw_fail P W 1 (G6 100 6) G6) lkX15_390 (cmTw_fail P W) rfl rfl rfl (fun _ => dsT_100 P W _) nn100 rfl (Nat.le_of_ble_eq_true rfl) (Nat.le_of_ble_eq_true rfl) (fun _ => rfl) rfl (fun z18 G19 => ?_)
    exact r_return dX15_number_30 rfl
theorem c_Tw_number (P W : Int) (x1 : Int) (x3 : Int) (G : St) : MG (MTw_number P W) [aR 100, aL x1, aL x3] G (Tw_number x1 x3 G) := MG.of plX15 (Nat.le_of_ble_eq_true rfl) (s_Tw_number P W x1 x3 G)
theorem s_Tw_sign (P W : Int) (x1 : Int) (G : St) : SS (MTw_sign P W) some 0 [(0, aR 100), (1, aI x1)] [] G (Tw_sign x1 G) := by
  refine r_aload_n 1 0 dX15_sign_0 rfl rfl rfl ?_
  refine r_callvV 4 (Mc := MTw_gap P W) (o := 100) (as := []) (st := []) dX15_sign_1 rfl (c_Tw_gap P W G) lkX15_383 (cmTw_gap P W) rfl rfl rfl (fun _ => dsT_100 P W _) nn100 rfl (Nat.le_of_ble_eq_true rfl) (Nat.le_of_ble_eq_true rfl) (fun _ => rfl) rfl (fun z1 G2 => ?_)
  refine r_aload_n 5 0 dX15_sign_4 rfl rfl rfl ?_
  refine r_iload_n 6 1 dX15_sign_5 rfl rfl rfl ?_
  refine r_callvI 9 (Mc := MTw_isSign P W) (o := 100) (as := [aI x1]) (st := []) dX15_sign_6 rfl (c_Tw_isSign P W x1 G2) lkX15_408 (cmTw_isSign P W) rfl rfl rfl (fun _ => dsT_100 P W _) nn100 rfl (Nat.le_of_ble_eq_true rfl) (Nat.le_of_ble_eq_true rfl) (fun _ => rfl) rfl (fun z3 G4 => ?_)
  refine r_if_ne 22 12 dX15_sign_9 rfl rfl ?_ ?_
  · refine r_aload_n 23 0 dX15_sign_22 rfl rfl rfl ?_
    refine r_dup 24 dX15_sign_23 rfl rfl ?_
    refine r_get 27 (aI (G4 100 6)) dX15_sign_24 fkX15_326 (fun _ => dsT_100 P W _) nn100 rfl rfl ?_
    refine r_iconst 28 1 dX15_sign_27 rfl rfl ?_
    refine r_iadd 29 dX15_sign_28 rfl ?_
    refine r_putI 32 dX15_sign_29 fkX15_326 (fun _ => dsT_100 P W _) nn100 rfl rfl ?_
    refine ss_tk (fun G5 => ?_)
    exact r_return dX15_sign_32 rfl
  · refine r_aload_n 13 0 dX15_sign_12 rfl rfl rfl ?_
    refine r_iconst 14 1 dX15_sign_13 rfl rfl ?_
    refine r_aload_n 15 0 dX15_sign_14 rfl rfl rfl ?_
    refine r_get 18 (aI (G4 100 6)) dX15_sign_15 fkX15_326 (fun _ => dsT_100 P W _) nn100 rfl rfl ?_
    refine r_callvV 21 (Mc := MTw_fail P W) (o := 100) (as := [aI 1, aI (G4 100 6)]) (st := []) dX15_sign_18 rfl (c_Tw_fail P W 1 (G4 100 6) G4) lkX15_390 (cmTw_fail P W) rfl rfl rfl (fun _ => dsT_100 P W _) nn100 rfl (Nat.le_of_ble_eq_true rfl) (Nat.le_of_ble_eq_true rfl) (fun _ => rfl) rfl (fun z6 G7 => ?_)
    exact r_return dX15_sign_21 rfl
theorem c_Tw_sign (P W : Int) (x1 : Int) (G : St) : MG (MTw_sign P W) [aR 100, aI x1] G (Tw_sign x1 G) := MG.of plX15 (Nat.le_of_ble_eq_true rfl) (s_Tw_sign P W x1 G)
theorem s_Tw_takeOperand_b84 (P W : Int) (x1 : Int) (x2 : Int) (G : St) : SS (MTw_takeOperand P W) some 84 [(0, aR 100), (1, aI x1), (2, aI x2)] [] G (Tw_takeOperand_b84 P W x1 x2 G) := by
  refine r_aload_n 85 0 dX15_takeOperand_84 rfl rfl rfl ?_
  refine r_iload_n 86 1 dX15_takeOperand_85 rfl rfl rfl ?_
  refine r_callvV 89 (Mc := MTw_deeper P W) (o := 100) (as := [aI x1]) (st := []) dX15_takeOperand_86 rfl (c_Tw_deeper P W x1 G) lkX15_430 (cmTw_deeper P W) rfl rfl rfl (fun _ => dsT_100 P W _) nn100 rfl (Nat.le_of_ble_eq_true rfl) (Nat.le_of_ble_eq_true rfl) (fun _ => rfl) rfl (fun z9 G10 => ?_)
  refine r_aload_n 90 0 dX15_takeOperand_89 rfl rfl rfl ?_
  refine r_iconst 91 2 dX15_takeOperand_90 rfl rfl ?_
  refine r_iload_n 92 2 dX15_takeOperand_91 rfl rfl rfl ?_
  refine r_iload_n 93 1 dX15_takeOperand_92 rfl rfl rfl ?_
  refine r_callvV 96 (Mc := MTw_push P W) (o := 100) (as := [aI 2, aI x2, aI x1]) (st := []) dX15_takeOperand_93 rfl (c_Tw_push P W 2 x2 x1 G10) lkX15_434 (cmTw_push P W) rfl rfl rfl (fun _ => dsT_100 P W _) nn100 rfl (Nat.le_of_ble_eq_true rfl) (Nat.le_of_ble_eq_true rfl) (fun _ => rfl) rfl (fun z11 G12 => ?_)
  refine r_aload_n 97 0 dX15_takeOperand_96 rfl rfl rfl ?_
  refine r_dup 98 dX15_takeOperand_97 rfl rfl ?_
  refine r_get 101 (aI (G12 100 6)) dX15_takeOperand_98 fkX15_326 (fun _ => dsT_100 P W _) nn100 rfl rfl ?_
  refine r_iconst 102 1 dX15_takeOperand_101 rfl rfl ?_
  refine r_iadd 103 dX15_takeOperand_102 rfl ?_
  refine r_putI 106 dX15_takeOperand_103 fkX15_326 (fun _ => dsT_100 P W _) nn100 rfl rfl ?_
  refine ss_tk (fun G13 => ?_)
  refine r_iconst 107 0 dX15_takeOperand_106 rfl rfl ?_
  exact r_zreturn dX15_takeOperand_107 rfl
theorem s_Tw_takeOperand_b203 (P W : Int) (x1 : Int) (s0 : Int) (G : St) : SS (MTw_takeOperand P W) some 203 [(0, aR 100), (1, aI x1)] [aI s0, aR 100] G (Tw_takeOperand_b203 P W x1 s0 G) := by
  refine r_iconst 204 0 dX15_takeOperand_203 rfl rfl ?_
  refine r_iconst 205 0 dX15_takeOperand_204 rfl rfl ?_
  refine r_iload_n 206 1 dX15_takeOperand_205 rfl rfl rfl ?_
  refine r_callvI 209 (Mc := MTw_put P W) (o := 100) (as := [aI s0, aI 0, aI 0, aI x1]) (st := []) dX15_takeOperand_206 rfl (c_Tw_put P W s0 0 0 x1 G) lkX15_423 (cmTw_put P W) rfl rfl rfl (fun _ => dsT_100 P W _) nn100 rfl (Nat.le_of_ble_eq_true rfl) (Nat.le_of_ble_eq_true rfl) (fun _ => rfl) rfl (fun z26 G27 => ?_)
  refine r_istore_n 210 [(3, aI z26), (0, aR 100), (1, aI x1)] dX15_takeOperand_209 rfl rfl rfl rfl ?_
  refine r_aload_n 211 1 dX15_takeOperand_210 rfl rfl rfl ?_
  refine r_aload_n 212 1 dX15_takeOperand_211 rfl rfl rfl ?_
  refine r_callvI 215 (Mc := MTw_wordEnd P W) (o := 100) (as := []) (st := [aR 100]) dX15_takeOperand_212 rfl (c_Tw_wordEnd P W G27) lkX15_340 (cmTw_wordEnd P W) rfl rfl rfl (fun _ => dsT_100 P W _) nn100 rfl (Nat.le_of_ble_eq_true rfl) (Nat.le_of_ble_eq_true rfl) (fun _ => rfl) rfl (fun z28 G29 => ?_)
  refine r_putI 218 dX15_takeOperand_215 fkX15_326 (fun _ => dsT_100 P W _) nn100 rfl rfl ?_
  refine ss_tk (fun G30 => ?_)
  refine r_iconst 219 1 dX15_takeOperand_218 rfl rfl ?_
  exact r_zreturn dX15_takeOperand_219 rfl
theorem s_Tw_takeOperand_b178 (P W : Int) (x1 : Int) (G : St) : SS (MTw_takeOperand P W) some 178 [(0, aR 100), (1, aI x1)] [] G (Tw_takeOperand_b178 P W x1 G) := by
  refine r_aload_n 179 0 dX15_takeOperand_178 rfl rfl rfl ?_
  refine r_iconst 180 1 dX15_takeOperand_179 rfl rfl ?_
  refine r_iconst 181 0 dX15_takeOperand_180 rfl rfl ?_
  refine r_iconst 182 0 dX15_takeOperand_181 rfl rfl ?_
  refine r_iload_n 183 1 dX15_takeOperand_182 rfl rfl rfl ?_
  refine r_callvI 186 (Mc := MTw_put P W) (o := 100) (as := [aI 1, aI 0, aI 0, aI x1]) (st := []) dX15_takeOperand_183 rfl (c_Tw_put P W 1 0 0 x1 G) lkX15_423 (cmTw_put P W) rfl rfl rfl (fun _ => dsT_100 P W _) nn100 rfl (Nat.le_of_ble_eq_true rfl) (Nat.le_of_ble_eq_true rfl) (fun _ => rfl) rfl (fun z22 G23 => ?_)
  refine r_istore_n 187 [(3, aI z22), (0, aR 100), (1, aI x1)] dX15_takeOperand_186 rfl rfl rfl rfl ?_
  refine r_aload_n 188 1 dX15_takeOperand_187 rfl rfl rfl ?_
  refine r_aload_n 189 1 dX15_takeOperand_188 rfl rfl rfl ?_
  refine r_ldcsw 192 11 dX15_takeOperand_189 q2384 rfl rfl rfl ?_
  refine r_callvI 195 (Mc := MTw_isWord P W) (o := 100) (as := [aR 81]) (st := [aR 100]) dX15_takeOperand_192 rfl (c_Tw_isWord P W 81 G23) lkX15_355 (cmTw_isWord P W) rfl rfl rfl (fun _ => dsT_100 P W _) nn100 rfl (Nat.le_of_ble_eq_true rfl) (Nat.le_of_ble_eq_true rfl) (fun _ => rfl) rfl (fun z24 G25 => ?_)
  refine SS.phi (fun VV_ => Tw_takeOperand_b203 P W x1 VV_ G25) ?_
  refine r_if_eq 202 198 dX15_takeOperand_195 rfl rfl ?_ ?_
  · refine r_iconst 203 4 dX15_takeOperand_202 rfl rfl ?_
    refine r_to [1, 2] [(0, aR 100), (1, aI x1)] rfl ?_
    exact s_Tw_takeOperand_b203 P W x1 4 G25
  · refine r_iconst 199 3 dX15_takeOperand_198 rfl rfl ?_
    refine r_goto 203 dX15_takeOperand_199 rfl ?_
    refine r_to [1, 2] [(0, aR 100), (1, aI x1)] rfl ?_
    exact s_Tw_takeOperand_b203 P W x1 3 G25
theorem s_Tw_takeOperand_b309 (P W : Int) (x1 : Int) (s0 : Int) (G : St) : SS (MTw_takeOperand P W) some 309 [(1, aI x1)] [aI s0, aR 100] G (Tw_takeOperand_b309 P W x1 s0 G) := by
  refine r_iconst 310 0 dX15_takeOperand_309 rfl rfl ?_
  refine r_iload_n 311 0 dX15_takeOperand_310 rfl rfl rfl ?_
  refine r_callvV 314 (Mc := MTw_push P W) (o := 100) (as := [aI s0, aI 0, aI x1]) (st := []) dX15_takeOperand_311 rfl (c_Tw_push P W s0 0 x1 G) lkX15_434 (cmTw_push P W) rfl rfl rfl (fun _ => dsT_100 P W _) nn100 rfl (Nat.le_of_ble_eq_true rfl) (Nat.le_of_ble_eq_true rfl) (fun _ => rfl) rfl (fun z44 G45 => ?_)
  refine r_iconst 315 0 dX15_takeOperand_314 rfl rfl ?_
  exact r_zreturn dX15_takeOperand_315 rfl
theorem s_Tw_takeOperand_b297 (P W : Int) (x1 : Int) (x3 : Int) (G : St) : SS (MTw_takeOperand P W) some 297 [(0, aR 100), (1, aI x1), (3, aI x3)] [] G (Tw_takeOperand_b297 P W x1 x3 G) := by
  refine r_aload_n 298 0 dX15_takeOperand_297 rfl rfl rfl ?_
  refine r_iload_n 299 2 dX15_takeOperand_298 rfl rfl rfl ?_
  refine SS.phi (fun VV_ => Tw_takeOperand_b309 P W x1 VV_ G) ?_
  refine r_if_eq 307 302 dX15_takeOperand_299 rfl rfl ?_ ?_
  · refine r_bipush 309 9 dX15_takeOperand_307 rfl rfl ?_
    refine r_to [1] [(1, aI x1)] rfl ?_
    exact s_Tw_takeOperand_b309 P W x1 9 G
  · refine r_bipush 304 8 dX15_takeOperand_302 rfl rfl ?_
    refine r_goto 309 dX15_takeOperand_304 rfl ?_
    refine r_to [1] [(1, aI x1)] rfl ?_
    exact s_Tw_takeOperand_b309 P W x1 8 G
theorem s_Tw_takeOperand_b240 (P W : Int) (x1 : Int) (G : St) : SS (MTw_takeOperand P W) some 240 [(0, aR 100), (1, aI x1)] [] G (Tw_takeOperand_b240 P W x1 G) := by
  refine r_aload_n 241 0 dX15_takeOperand_240 rfl rfl rfl ?_
  refine r_ldcsw 244 9 dX15_takeOperand_241 q2386 rfl rfl rfl ?_
  refine r_callvI 247 (Mc := MTw_isWord P W) (o := 100) (as := [aR 79]) (st := []) dX15_takeOperand_244 rfl (c_Tw_isWord P W 79 G) lkX15_355 (cmTw_isWord P W) rfl rfl rfl (fun _ => dsT_100 P W _) nn100 rfl (Nat.le_of_ble_eq_true rfl) (Nat.le_of_ble_eq_true rfl) (fun _ => rfl) rfl (fun z35 G36 => ?_)
  refine r_istore_n 248 [(3, aI z35), (0, aR 100), (1, aI x1)] dX15_takeOperand_247 rfl rfl rfl rfl ?_
  refine r_aload_n 249 1 dX15_takeOperand_248 rfl rfl rfl ?_
  refine r_iconst 250 1 dX15_takeOperand_249 rfl rfl ?_
  refine r_iconst 251 0 dX15_takeOperand_250 rfl rfl ?_
  refine r_iconst 252 0 dX15_takeOperand_251 rfl rfl ?_
  refine r_iload_n 253 2 dX15_takeOperand_252 rfl rfl rfl ?_
  refine r_callvI 256 (Mc := MTw_put P W) (o := 100) (as := [aI 1, aI 0, aI 0, aI x1]) (st := []) dX15_takeOperand_253 rfl (c_Tw_put P W 1 0 0 x1 G36) lkX15_423 (cmTw_put P W) rfl rfl rfl (fun _ => dsT_100 P W _) nn100 rfl (Nat.le_of_ble_eq_true rfl) (Nat.le_of_ble_eq_true rfl) (fun _ => rfl) rfl (fun z37 G38 => ?_)
  refine r_istore 258 [(4, aI z37), (3, aI z35), (0, aR 100), (1, aI x1)] dX15_takeOperand_256 rfl rfl rfl ?_
  refine r_aload_n 259 2 dX15_takeOperand_258 rfl rfl rfl ?_
  refine r_dup 260 dX15_takeOperand_259 rfl rfl ?_
  refine r_get 263 (aI (G38 100 6)) dX15_takeOperand_260 fkX15_326 (fun _ => dsT_100 P W _) nn100 rfl rfl ?_
  refine r_iconst 264 3 dX15_takeOperand_263 rfl rfl ?_
  refine r_iadd 265 dX15_takeOperand_264 rfl ?_
  refine r_putI 268 dX15_takeOperand_265 fkX15_326 (fun _ => dsT_100 P W _) nn100 rfl rfl ?_
  refine ss_tk (fun G39 => ?_)
  refine r_aload_n 269 2 dX15_takeOperand_268 rfl rfl rfl ?_
  refine r_callvV 272 (Mc := MTw_gap P W) (o := 100) (as := []) (st := []) dX15_takeOperand_269 rfl (c_Tw_gap P W G39) lkX15_383 (cmTw_gap P W) rfl rfl rfl (fun _ => dsT_100 P W _) nn100 rfl (Nat.le_of_ble_eq_true rfl) (Nat.le_of_ble_eq_true rfl) (fun _ => rfl) rfl (fun z40 G41 => ?_)
  refine r_aload_n 273 2 dX15_takeOperand_272 rfl rfl rfl ?_
  refine r_get 276 (aI (G41 100 6)) dX15_takeOperand_273 fkX15_326 (fun _ => dsT_100 P W _) nn100 rfl rfl ?_
  refine r_istore 278 [(5, aI (G41 100 6)), (4, aI z37), (3, aI z35), (0, aR 100), (1, aI x1)] dX15_takeOperand_276 rfl rfl rfl ?_
  refine r_aload_n 279 3 dX15_takeOperand_278 rfl rfl rfl ?_
  refine r_bipush 281 40 dX15_takeOperand_279 rfl rfl ?_
  refine r_callvV 284 (Mc := MTw_sign P W) (o := 100) (as := [aI 40]) (st := []) dX15_takeOperand_281 rfl (c_Tw_sign P W 40 G41) lkX15_442 (cmTw_sign P W) rfl rfl rfl (fun _ => dsT_100 P W _) nn100 rfl (Nat.le_of_ble_eq_true rfl) (Nat.le_of_ble_eq_true rfl) (fun _ => rfl) rfl (fun z42 G43 => ?_)
  refine r_aload_n 285 3 dX15_takeOperand_284 rfl rfl rfl ?_
  refine r_get 288 (aI (G43 100 7)) dX15_takeOperand_285 fkX15_323 (fun _ => dsT_100 P W _) nn100 rfl rfl ?_
  refine r_if_ne 297 291 dX15_takeOperand_288 rfl rfl ?_ ?_
  · refine r_to [3, 4, 2] [(0, aR 100), (1, aI x1), (3, aI z35)] rfl ?_
    exact s_Tw_takeOperand_b297 P W x1 z35 G43
  · refine r_aload_n 292 3 dX15_takeOperand_291 rfl rfl rfl ?_
    refine r_iload 294 0 dX15_takeOperand_292 rfl rfl ?_
    refine r_callvV 297 (Mc := MTw_deeper P W) (o := 100) (as := [aI (G41 100 6)]) (st := []) dX15_takeOperand_294 rfl (c_Tw_deeper P W (G41 100 6) G43) lkX15_430 (cmTw_deeper P W) rfl rfl rfl (fun _ => dsT_100 P W _) nn100 rfl (Nat.le_of_ble_eq_true rfl) (Nat.le_of_ble_eq_true rfl) (fun _ => rfl) rfl (fun z46 G47 => ?_)
    refine r_to [3, 4, 2] [(0, aR 100), (1, aI x1), (3, aI z35)] rfl ?_
    exact s_Tw_takeOperand_b297 P W x1 z35 G47
theorem s_Tw_takeOperand (P W : Int) (G : St) : SS (MTw_takeOperand P W) some 0 [(0, aR 100)] [] G (Tw_takeOperand P W G) := by
  refine r_aload_n 1 0 dX15_takeOperand_0 rfl rfl rfl ?_
  refine r_callvV 4 (Mc := MTw_gap P W) (o := 100) (as := []) (st := []) dX15_takeOperand_1 rfl (c_Tw_gap P W G) lkX15_383 (cmTw_gap P W) rfl rfl rfl (fun _ => dsT_100 P W _) nn100 rfl (Nat.le_of_ble_eq_true rfl) (Nat.le_of_ble_eq_true rfl) (fun _ => rfl) rfl (fun z1 G2 => ?_)
  refine r_aload_n 5 0 dX15_takeOperand_4 rfl rfl rfl ?_
  refine r_get 8 (aI (G2 100 6)) dX15_takeOperand_5 fkX15_326 (fun _ => dsT_100 P W _) nn100 rfl rfl ?_
  refine r_istore_n 9 [(1, aI (G2 100 6)), (0, aR 100)] dX15_takeOperand_8 rfl rfl rfl rfl ?_
  refine r_aload_n 10 1 dX15_takeOperand_9 rfl rfl rfl ?_
  refine r_iconst 11 0 dX15_takeOperand_10 rfl rfl ?_
  refine r_callvI 14 (Mc := MTw_look0 P W) (o := 100) (as := [aI 0]) (st := []) dX15_takeOperand_11 rfl (c_Tw_look0 P W 0 G2) lkX15_329 (cmTw_look0 P W) rfl rfl rfl (fun _ => dsT_100 P W _) nn100 rfl (Nat.le_of_ble_eq_true rfl) (Nat.le_of_ble_eq_true rfl) (fun _ => rfl) rfl (fun z3 G4 => ?_)
  refine r_istore_n 15 [(2, aI z3), (1, aI (G2 100 6)), (0, aR 100)] dX15_takeOperand_14 rfl rfl rfl rfl ?_
  refine r_aload_n 16 2 dX15_takeOperand_15 rfl rfl rfl ?_
  refine r_bipush 18 40 dX15_takeOperand_16 rfl rfl ?_
  refine r_callvI 21 (Mc := MTw_isSign P W) (o := 100) (as := [aI 40]) (st := []) dX15_takeOperand_18 rfl (c_Tw_isSign P W 40 G4) lkX15_408 (cmTw_isSign P W) rfl rfl rfl (fun _ => dsT_100 P W _) nn100 rfl (Nat.le_of_ble_eq_true rfl) (Nat.le_of_ble_eq_true rfl) (fun _ => rfl) rfl (fun z5 G6 => ?_)
  refine r_if_eq 57 24 dX15_takeOperand_21 rfl rfl ?_ ?_
  · refine r_aload_n 58 2 dX15_takeOperand_57 rfl rfl rfl ?_
    refine r_bipush 60 45 dX15_takeOperand_58 rfl rfl ?_
    refine r_callvI 63 (Mc := MTw_isSign P W) (o := 100) (as := [aI 45]) (st := []) dX15_takeOperand_60 rfl (c_Tw_isSign P W 45 G6) lkX15_408 (cmTw_isSign P W) rfl rfl rfl (fun _ => dsT_100 P W _) nn100 rfl (Nat.le_of_ble_eq_true rfl) (Nat.le_of_ble_eq_true rfl) (fun _ => rfl) rfl (fun z7 G8 => ?_)
    refine r_if_ne 84 66 dX15_takeOperand_63 rfl rfl ?_ ?_
    · refine r_to [2, 1, 0] [(0, aR 100), (1, aI (G2 100 6)), (2, aI z3)] rfl ?_
      exact s_Tw_takeOperand_b84 P W (G2 100 6) z3 G8
    · refine r_aload_n 67 2 dX15_takeOperand_66 rfl rfl rfl ?_
      refine r_bipush 69 126 dX15_takeOperand_67 rfl rfl ?_
      refine r_callvI 72 (Mc := MTw_isSign P W) (o := 100) (as := [aI 126]) (st := []) dX15_takeOperand_69 rfl (c_Tw_isSign P W 126 G8) lkX15_408 (cmTw_isSign P W) rfl rfl rfl (fun _ => dsT_100 P W _) nn100 rfl (Nat.le_of_ble_eq_true rfl) (Nat.le_of_ble_eq_true rfl) (fun _ => rfl) rfl (fun z14 G15 => ?_)
      refine r_if_ne 84 75 dX15_takeOperand_72 rfl rfl ?_ ?_
      · refine r_to [2, 1, 0] [(0, aR 100), (1, aI (G2 100 6)), (2, aI z3)] rfl ?_
        exact s_Tw_takeOperand_b84 P W (G2 100 6) z3 G15
      · refine r_aload_n 76 2 dX15_takeOperand_75 rfl rfl rfl ?_
        refine r_bipush 78 33 dX15_takeOperand_76 rfl rfl ?_
        refine r_callvI 81 (Mc := MTw_isSign P W) (o := 100) (as := [aI 33]) (st := []) dX15_takeOperand_78 rfl (c_Tw_isSign P W 33 G15) lkX15_408 (cmTw_isSign P W) rfl rfl rfl (fun _ => dsT_100 P W _) nn100 rfl (Nat.le_of_ble_eq_true rfl) (Nat.le_of_ble_eq_true rfl) (fun _ => rfl) rfl (fun z16 G17 => ?_)
        refine r_if_eq 108 84 dX15_takeOperand_81 rfl rfl ?_ ?_
        · refine r_iload_n 109 0 dX15_takeOperand_108 rfl rfl rfl ?_
          refine r_callsI 112 (Mc := MTw_isDigit P W) (as := [aI z3]) (st := []) dX15_takeOperand_109 rfl (c_Tw_isDigit P W z3 G17) q2347 (cmTw_isDigit P W) rfl rfl rfl (Nat.le_of_ble_eq_true rfl) (Nat.le_of_ble_eq_true rfl) (fun _ => rfl) rfl (fun z18 G19 => ?_)
          refine r_if_eq 158 115 dX15_takeOperand_112 rfl rfl ?_ ?_
          · refine r_aload_n 159 2 dX15_takeOperand_158 rfl rfl rfl ?_
            refine r_ldcsw 162 11 dX15_takeOperand_159 q2384 rfl rfl rfl ?_
            refine r_callvI 165 (Mc := MTw_isWord P W) (o := 100) (as := [aR 81]) (st := []) dX15_takeOperand_162 rfl (c_Tw_isWord P W 81 G19) lkX15_355 (cmTw_isWord P W) rfl rfl rfl (fun _ => dsT_100 P W _) nn100 rfl (Nat.le_of_ble_eq_true rfl) (Nat.le_of_ble_eq_true rfl) (fun _ => rfl) rfl (fun z20 G21 => ?_)
            refine r_if_ne 178 168 dX15_takeOperand_165 rfl rfl ?_ ?_
            · refine r_to [2, 1] [(0, aR 100), (1, aI (G2 100 6))] rfl ?_
              exact s_Tw_takeOperand_b178 P W (G2 100 6) G21
            · refine r_aload_n 169 2 dX15_takeOperand_168 rfl rfl rfl ?_
              refine r_ldcsw 172 12 dX15_takeOperand_169 q2385 rfl rfl rfl ?_
              refine r_callvI 175 (Mc := MTw_isWord P W) (o := 100) (as := [aR 82]) (st := []) dX15_takeOperand_172 rfl (c_Tw_isWord P W 82 G21) lkX15_355 (cmTw_isWord P W) rfl rfl rfl (fun _ => dsT_100 P W _) nn100 rfl (Nat.le_of_ble_eq_true rfl) (Nat.le_of_ble_eq_true rfl) (fun _ => rfl) rfl (fun z31 G32 => ?_)
              refine r_if_eq 220 178 dX15_takeOperand_175 rfl rfl ?_ ?_
              · refine r_aload_n 221 2 dX15_takeOperand_220 rfl rfl rfl ?_
                refine r_ldcsw 224 9 dX15_takeOperand_221 q2386 rfl rfl rfl ?_
                refine r_callvI 227 (Mc := MTw_isWord P W) (o := 100) (as := [aR 79]) (st := []) dX15_takeOperand_224 rfl (c_Tw_isWord P W 79 G32) lkX15_355 (cmTw_isWord P W) rfl rfl rfl (fun _ => dsT_100 P W _) nn100 rfl (Nat.le_of_ble_eq_true rfl) (Nat.le_of_ble_eq_true rfl) (fun _ => rfl) rfl (fun z33 G34 => ?_)
                refine r_if_ne 240 230 dX15_takeOperand_227 rfl rfl ?_ ?_
                · refine r_to [2, 1] [(0, aR 100), (1, aI (G2 100 6))] rfl ?_
                  exact s_Tw_takeOperand_b240 P W (G2 100 6) G34
                · refine r_aload_n 231 2 dX15_takeOperand_230 rfl rfl rfl ?_
                  refine r_ldcsw 234 10 dX15_takeOperand_231 q2387 rfl rfl rfl ?_
                  refine r_callvI 237 (Mc := MTw_isWord P W) (o := 100) (as := [aR 80]) (st := []) dX15_takeOperand_234 rfl (c_Tw_isWord P W 80 G34) lkX15_355 (cmTw_isWord P W) rfl rfl rfl (fun _ => dsT_100 P W _) nn100 rfl (Nat.le_of_ble_eq_true rfl) (Nat.le_of_ble_eq_true rfl) (fun _ => rfl) rfl (fun z48 G49 => ?_)
                  refine r_if_eq 316 240 dX15_takeOperand_237 rfl rfl ?_ ?_
                  · refine r_aload_n 317 2 dX15_takeOperand_316 rfl rfl rfl ?_
                    refine r_callvI 320 (Mc := MTw_name P W) (o := 100) (as := []) (st := []) dX15_takeOperand_317 rfl (c_Tw_name P W G49) lkX15_445 (cmTw_name P W) rfl rfl rfl (fun _ => dsT_100 P W _) nn100 rfl (Nat.le_of_ble_eq_true rfl) (Nat.le_of_ble_eq_true rfl) (fun _ => rfl) rfl (fun z50 G51 => ?_)
                    refine r_istore_n 321 [(3, aI z50), (2, aI z3), (1, aI (G2 100 6)), (0, aR 100)] dX15_takeOperand_320 rfl rfl rfl rfl ?_
                    refine r_aload_n 322 3 dX15_takeOperand_321 rfl rfl rfl ?_
                    refine r_get 325 (aI (G51 100 7)) dX15_takeOperand_322 fkX15_323 (fun _ => dsT_100 P W _) nn100 rfl rfl ?_
                    refine r_if_le 330 328 dX15_takeOperand_325 rfl rfl ?_ ?_
                    · refine r_aload_n 331 3 dX15_takeOperand_330 rfl rfl rfl ?_
                      refine r_iconst 332 1 dX15_takeOperand_331 rfl rfl ?_
                      refine r_iconst 333 0 dX15_takeOperand_332 rfl rfl ?_
                      refine r_iconst 334 0 dX15_takeOperand_333 rfl rfl ?_
                      refine r_iload_n 335 2 dX15_takeOperand_334 rfl rfl rfl ?_
                      refine r_callvI 338 (Mc := MTw_put P W) (o := 100) (as := [aI 1, aI 0, aI 0, aI (G2 100 6)]) (st := []) dX15_takeOperand_335 rfl (c_Tw_put P W 1 0 0 (G2 100 6) G51) lkX15_423 (cmTw_put P W) rfl rfl rfl (fun _ => dsT_100 P W _) nn100 rfl (Nat.le_of_ble_eq_true rfl) (Nat.le_of_ble_eq_true rfl) (fun _ => rfl) rfl (fun z52 G53 => ?_)
                      refine r_istore 340 [(4, aI z52), (3, aI z50), (2, aI z3), (1, aI (G2 100 6)), (0, aR 100)] dX15_takeOperand_338 rfl rfl rfl ?_
                      refine r_aload_n 341 4 dX15_takeOperand_340 rfl rfl rfl ?_
                      refine r_callvV 344 (Mc := MTw_gap P W) (o := 100) (as := []) (st := []) dX15_takeOperand_341 rfl (c_Tw_gap P W G53) lkX15_383 (cmTw_gap P W) rfl rfl rfl (fun _ => dsT_100 P W _) nn100 rfl (Nat.le_of_ble_eq_true rfl) (Nat.le_of_ble_eq_true rfl) (fun _ => rfl) rfl (fun z54 G55 => ?_)
                      refine r_aload_n 345 4 dX15_takeOperand_344 rfl rfl rfl ?_
                      refine r_bipush 347 91 dX15_takeOperand_345 rfl rfl ?_
                      refine r_callvI 350 (Mc := MTw_isSign P W) (o := 100) (as := [aI 91]) (st := []) dX15_takeOperand_347 rfl (c_Tw_isSign P W 91 G55) lkX15_408 (cmTw_isSign P W) rfl rfl rfl (fun _ => dsT_100 P W _) nn100 rfl (Nat.le_of_ble_eq_true rfl) (Nat.le_of_ble_eq_true rfl) (fun _ => rfl) rfl (fun z56 G57 => ?_)
                      refine r_if_eq 392 353 dX15_takeOperand_350 rfl rfl ?_ ?_
                      · refine r_aload_n 393 4 dX15_takeOperand_392 rfl rfl rfl ?_
                        refine r_bipush 395 40 dX15_takeOperand_393 rfl rfl ?_
                        refine r_callvI 398 (Mc := MTw_isSign P W) (o := 100) (as := [aI 40]) (st := []) dX15_takeOperand_395 rfl (c_Tw_isSign P W 40 G57) lkX15_408 (cmTw_isSign P W) rfl rfl rfl (fun _ => dsT_100 P W _) nn100 rfl (Nat.le_of_ble_eq_true rfl) (Nat.le_of_ble_eq_true rfl) (fun _ => rfl) rfl (fun z58 G59 => ?_)
                        refine r_if_eq 450 401 dX15_takeOperand_398 rfl rfl ?_ ?_
                        · refine r_aload_n 451 4 dX15_takeOperand_450 rfl rfl rfl ?_
                          refine r_iconst 452 5 dX15_takeOperand_451 rfl rfl ?_
                          refine r_iload_n 453 1 dX15_takeOperand_452 rfl rfl rfl ?_
                          refine r_iconst 454 0 dX15_takeOperand_453 rfl rfl ?_
                          refine r_iload_n 455 3 dX15_takeOperand_454 rfl rfl rfl ?_
                          refine r_callvI 458 (Mc := MTw_put P W) (o := 100) (as := [aI 5, aI z50, aI 0, aI (G2 100 6)]) (st := []) dX15_takeOperand_455 rfl (c_Tw_put P W 5 z50 0 (G2 100 6) G59) lkX15_423 (cmTw_put P W) rfl rfl rfl (fun _ => dsT_100 P W _) nn100 rfl (Nat.le_of_ble_eq_true rfl) (Nat.le_of_ble_eq_true rfl) (fun _ => rfl) rfl (fun z60 G61 => ?_)
                          refine r_istore 460 [(4, aI z60), (3, aI z50), (2, aI z3), (1, aI (G2 100 6)), (0, aR 100)] dX15_takeOperand_458 rfl rfl rfl ?_
                          refine r_iconst 461 1 dX15_takeOperand_460 rfl rfl ?_
                          exact r_zreturn dX15_takeOperand_461 rfl
                        · refine r_aload_n 402 4 dX15_takeOperand_401 rfl rfl rfl ?_
                          refine r_aload_n 403 4 dX15_takeOperand_402 rfl rfl rfl ?_
                          refine r_get 406 (aI (G59 100 6)) dX15_takeOperand_403 fkX15_326 (fun _ => dsT_100 P W _) nn100 rfl rfl ?_
                          refine r_callvV 409 (Mc := MTw_deeper P W) (o := 100) (as := [aI (G59 100 6)]) (st := []) dX15_takeOperand_406 rfl (c_Tw_deeper P W (G59 100 6) G59) lkX15_430 (cmTw_deeper P W) rfl rfl rfl (fun _ => dsT_100 P W _) nn100 rfl (Nat.le_of_ble_eq_true rfl) (Nat.le_of_ble_eq_true rfl) (fun _ => rfl) rfl (fun z62 G63 => ?_)
                          refine r_aload_n 410 4 dX15_takeOperand_409 rfl rfl rfl ?_
                          refine r_dup 411 dX15_takeOperand_410 rfl rfl ?_
                          refine r_get 414 (aI (G63 100 6)) dX15_takeOperand_411 fkX15_326 (fun _ => dsT_100 P W _) nn100 rfl rfl ?_
                          refine r_iconst 415 1 dX15_takeOperand_414 rfl rfl ?_
                          refine r_iadd 416 dX15_takeOperand_415 rfl ?_
                          refine r_putI 419 dX15_takeOperand_416 fkX15_326 (fun _ => dsT_100 P W _) nn100 rfl rfl ?_
                          refine ss_tk (fun G64 => ?_)
                          refine r_aload_n 420 4 dX15_takeOperand_419 rfl rfl rfl ?_
                          refine r_bipush 422 8 dX15_takeOperand_420 rfl rfl ?_
                          refine r_iload_n 423 1 dX15_takeOperand_422 rfl rfl rfl ?_
                          refine r_iconst 424 0 dX15_takeOperand_423 rfl rfl ?_
                          refine r_iload_n 425 3 dX15_takeOperand_424 rfl rfl rfl ?_
                          refine r_callvI 428 (Mc := MTw_put P W) (o := 100) (as := [aI 8, aI z50, aI 0, aI (G2 100 6)]) (st := []) dX15_takeOperand_425 rfl (c_Tw_put P W 8 z50 0 (G2 100 6) G64) lkX15_423 (cmTw_put P W) rfl rfl rfl (fun _ => dsT_100 P W _) nn100 rfl (Nat.le_of_ble_eq_true rfl) (Nat.le_of_ble_eq_true rfl) (fun _ => rfl) rfl (fun z65 G66 => ?_)
                          refine r_istore 430 [(4, aI z65), (3, aI z50), (2, aI z3), (1, aI (G2 100 6)), (0, aR 100)] dX15_takeOperand_428 rfl rfl rfl ?_
                          refine r_aload_n 431 4 dX15_takeOperand_430 rfl rfl rfl ?_
                          refine r_bipush 433 7 dX15_takeOperand_431 rfl rfl ?_
                          refine r_iload 435 0 dX15_takeOperand_433 rfl rfl ?_
                          refine r_iload_n 436 3 dX15_takeOperand_435 rfl rfl rfl ?_
                          refine r_callvV 439 (Mc := MTw_push P W) (o := 100) (as := [aI 7, aI z65, aI (G2 100 6)]) (st := []) dX15_takeOperand_436 rfl (c_Tw_push P W 7 z65 (G2 100 6) G66) lkX15_434 (cmTw_push P W) rfl rfl rfl (fun _ => dsT_100 P W _) nn100 rfl (Nat.le_of_ble_eq_true rfl) (Nat.le_of_ble_eq_true rfl) (fun _ => rfl) rfl (fun z67 G68 => ?_)
                          refine r_aload_n 440 4 dX15_takeOperand_439 rfl rfl rfl ?_
                          refine r_callvV 443 (Mc := MTw_gap P W) (o := 100) (as := []) (st := []) dX15_takeOperand_440 rfl (c_Tw_gap P W G68) lkX15_383 (cmTw_gap P W) rfl rfl rfl (fun _ => dsT_100 P W _) nn100 rfl (Nat.le_of_ble_eq_true rfl) (Nat.le_of_ble_eq_true rfl) (fun _ => rfl) rfl (fun z69 G70 => ?_)
                          refine r_aload_n 444 4 dX15_takeOperand_443 rfl rfl rfl ?_
                          refine r_bipush 446 41 dX15_takeOperand_444 rfl rfl ?_
                          refine r_callvI 449 (Mc := MTw_isSign P W) (o := 100) (as := [aI 41]) (st := []) dX15_takeOperand_446 rfl (c_Tw_isSign P W 41 G70) lkX15_408 (cmTw_isSign P W) rfl rfl rfl (fun _ => dsT_100 P W _) nn100 rfl (Nat.le_of_ble_eq_true rfl) (Nat.le_of_ble_eq_true rfl) (fun _ => rfl) rfl (fun z71 G72 => ?_)
                          exact r_zreturn dX15_takeOperand_449 rfl
                      · refine r_aload_n 354 4 dX15_takeOperand_353 rfl rfl rfl ?_
                        refine r_aload_n 355 4 dX15_takeOperand_354 rfl rfl rfl ?_
                        refine r_get 358 (aI (G57 100 6)) dX15_takeOperand_355 fkX15_326 (fun _ => dsT_100 P W _) nn100 rfl rfl ?_
                        refine r_callvV 361 (Mc := MTw_deeper P W) (o := 100) (as := [aI (G57 100 6)]) (st := []) dX15_takeOperand_358 rfl (c_Tw_deeper P W (G57 100 6) G57) lkX15_430 (cmTw_deeper P W) rfl rfl rfl (fun _ => dsT_100 P W _) nn100 rfl (Nat.le_of_ble_eq_true rfl) (Nat.le_of_ble_eq_true rfl) (fun _ => rfl) rfl (fun z73 G74 => ?_)
                        refine r_aload_n 362 4 dX15_takeOperand_361 rfl rfl rfl ?_
                        refine r_dup 363 dX15_takeOperand_362 rfl rfl ?_
                        refine r_get 366 (aI (G74 100 6)) dX15_takeOperand_363 fkX15_326 (fun _ => dsT_100 P W _) nn100 rfl rfl ?_
                        refine r_iconst 367 1 dX15_takeOperand_366 rfl rfl ?_
                        refine r_iadd 368 dX15_takeOperand_367 rfl ?_
                        refine r_putI 371 dX15_takeOperand_368 fkX15_326 (fun _ => dsT_100 P W _) nn100 rfl rfl ?_
                        refine ss_tk (fun G75 => ?_)
                        refine r_aload_n 372 4 dX15_takeOperand_371 rfl rfl rfl ?_
                        refine r_bipush 374 6 dX15_takeOperand_372 rfl rfl ?_
                        refine r_iload_n 375 1 dX15_takeOperand_374 rfl rfl rfl ?_
                        refine r_iconst 376 0 dX15_takeOperand_375 rfl rfl ?_
                        refine r_iload_n 377 3 dX15_takeOperand_376 rfl rfl rfl ?_
                        refine r_callvI 380 (Mc := MTw_put P W) (o := 100) (as := [aI 6, aI z50, aI 0, aI (G2 100 6)]) (st := []) dX15_takeOperand_377 rfl (c_Tw_put P W 6 z50 0 (G2 100 6) G75) lkX15_423 (cmTw_put P W) rfl rfl rfl (fun _ => dsT_100 P W _) nn100 rfl (Nat.le_of_ble_eq_true rfl) (Nat.le_of_ble_eq_true rfl) (fun _ => rfl) rfl (fun z76 G77 => ?_)
                        refine r_istore 382 [(4, aI z76), (3, aI z50), (2, aI z3), (1, aI (G2 100 6)), (0, aR 100)] dX15_takeOperand_380 rfl rfl rfl ?_
                        refine r_aload_n 383 4 dX15_takeOperand_382 rfl rfl rfl ?_
                        refine r_bipush 385 6 dX15_takeOperand_383 rfl rfl ?_
                        refine r_iload_n 386 1 dX15_takeOperand_385 rfl rfl rfl ?_
                        refine r_iload_n 387 3 dX15_takeOperand_386 rfl rfl rfl ?_
                        refine r_callvV 390 (Mc := MTw_push P W) (o := 100) (as := [aI 6, aI z50, aI (G2 100 6)]) (st := []) dX15_takeOperand_387 rfl (c_Tw_push P W 6 z50 (G2 100 6) G77) lkX15_434 (cmTw_push P W) rfl rfl rfl (fun _ => dsT_100 P W _) nn100 rfl (Nat.le_of_ble_eq_true rfl) (Nat.le_of_ble_eq_true rfl) (fun _ => rfl) rfl (fun z78 G79 => ?_)
                        refine r_iconst 391 0 dX15_takeOperand_390 rfl rfl ?_
                        exact r_zreturn dX15_takeOperand_391 rfl
                    · refine r_iconst 329 1 dX15_takeOperand_328 rfl rfl ?_
                      exact r_zreturn dX15_takeOperand_329 rfl
                  · refine r_to [2, 1] [(0, aR 100), (1, aI (G2 100 6))] rfl ?_
                    exact s_Tw_takeOperand_b240 P W (G2 100 6) G49
              · refine r_to [2, 1] [(0, aR 100), (1, aI (G2 100 6))] rfl ?_
                exact s_Tw_takeOperand_b178 P W (G2 100 6) G32
          · refine r_aload_n 116 2 dX15_takeOperand_115 rfl rfl rfl ?_
            refine r_lconst 117 0 dX15_takeOperand_116 rfl rfl rfl ?_
            refine r_ldc2 120 4294967295 dX15_takeOperand_117 q2377 (by decide) rfl rfl ?_
            refine r_callvV 123 (Mc := MTw_number P W) (o := 100) (as := [aL 0, aL 4294967295]) (st := []) dX15_takeOperand_120 rfl (c_Tw_number P W 0 4294967295 G19) lkX15_438 (cmTw_number P W) rfl rfl rfl (fun _ => dsT_100 P W _) nn100 rfl (Nat.le_of_ble_eq_true rfl) (Nat.le_of_ble_eq_true rfl) (fun _ => rfl) rfl (fun z80 G81 => ?_)
            refine r_aload_n 124 2 dX15_takeOperand_123 rfl rfl rfl ?_
            refine r_iconst 125 1 dX15_takeOperand_124 rfl rfl ?_
            refine r_iconst 126 0 dX15_takeOperand_125 rfl rfl ?_
            refine r_iconst 127 0 dX15_takeOperand_126 rfl rfl ?_
            refine r_iload_n 128 1 dX15_takeOperand_127 rfl rfl rfl ?_
            refine r_callvI 131 (Mc := MTw_put P W) (o := 100) (as := [aI 1, aI 0, aI 0, aI (G2 100 6)]) (st := []) dX15_takeOperand_128 rfl (c_Tw_put P W 1 0 0 (G2 100 6) G81) lkX15_423 (cmTw_put P W) rfl rfl rfl (fun _ => dsT_100 P W _) nn100 rfl (Nat.le_of_ble_eq_true rfl) (Nat.le_of_ble_eq_true rfl) (fun _ => rfl) rfl (fun z82 G83 => ?_)
            refine r_istore_n 132 [(3, aI z82), (2, aI z3), (1, aI (G2 100 6)), (0, aR 100)] dX15_takeOperand_131 rfl rfl rfl rfl ?_
            refine r_aload_n 133 3 dX15_takeOperand_132 rfl rfl rfl ?_
            refine r_iconst 134 2 dX15_takeOperand_133 rfl rfl ?_
            refine r_iconst 135 0 dX15_takeOperand_134 rfl rfl ?_
            refine r_iconst 136 0 dX15_takeOperand_135 rfl rfl ?_
            refine r_iload_n 137 2 dX15_takeOperand_136 rfl rfl rfl ?_
            refine r_callvI 140 (Mc := MTw_put P W) (o := 100) (as := [aI 2, aI 0, aI 0, aI (G2 100 6)]) (st := []) dX15_takeOperand_137 rfl (c_Tw_put P W 2 0 0 (G2 100 6) G83) lkX15_423 (cmTw_put P W) rfl rfl rfl (fun _ => dsT_100 P W _) nn100 rfl (Nat.le_of_ble_eq_true rfl) (Nat.le_of_ble_eq_true rfl) (fun _ => rfl) rfl (fun z84 G85 => ?_)
            refine r_istore_n 141 [(3, aI z84), (2, aI z3), (1, aI (G2 100 6)), (0, aR 100)] dX15_takeOperand_140 rfl rfl rfl rfl ?_
            refine r_aload_n 142 3 dX15_takeOperand_141 rfl rfl rfl ?_
            refine r_get 145 (aR 119) dX15_takeOperand_142 fkX15_34 (fun _ => dsT_100 P W _) nn100 rfl rfl ?_
            refine r_iload_n 146 0 dX15_takeOperand_145 rfl rfl rfl ?_
            refine r_aload_n 147 3 dX15_takeOperand_146 rfl rfl rfl ?_
            refine r_get 150 (aL (G85 100 12)) dX15_takeOperand_147 fkX15_396 (fun _ => dsT_100 P W _) nn100 rfl rfl ?_
            refine r_aload_n 151 3 dX15_takeOperand_150 rfl rfl rfl ?_
            refine r_get 154 (aL (2 ^ W.toNat - 1)) dX15_takeOperand_151 fkX15_306 (fun _ => dsT_100 P W _) nn100 rfl rfl ?_
            refine r_land 155 dX15_takeOperand_154 rfl ?_
            refine r_last 156 dX15_takeOperand_155 (fun _ _ _ => dsT_119 P W _) (fun _ _ => nn119) rfl ?_
            refine ss_tk (fun G86 => ?_)
            refine r_iconst 157 1 dX15_takeOperand_156 rfl rfl ?_
            exact r_zreturn dX15_takeOperand_157 rfl
        · refine r_to [2, 1, 0] [(0, aR 100), (1, aI (G2 100 6)), (2, aI z3)] rfl ?_
          exact s_Tw_takeOperand_b84 P W (G2 100 6) z3 G17
  · refine r_aload_n 25 2 dX15_takeOperand_24 rfl rfl rfl ?_
    refine r_iconst 26 1 dX15_takeOperand_25 rfl rfl ?_
    refine r_iconst 27 0 dX15_takeOperand_26 rfl rfl ?_
    refine r_iconst 28 0 dX15_takeOperand_27 rfl rfl ?_
    refine r_iload_n 29 1 dX15_takeOperand_28 rfl rfl rfl ?_
    refine r_callvI 32 (Mc := MTw_put P W) (o := 100) (as := [aI 1, aI 0, aI 0, aI (G2 100 6)]) (st := []) dX15_takeOperand_29 rfl (c_Tw_put P W 1 0 0 (G2 100 6) G6) lkX15_423 (cmTw_put P W) rfl rfl rfl (fun _ => dsT_100 P W _) nn100 rfl (Nat.le_of_ble_eq_true rfl) (Nat.le_of_ble_eq_true rfl) (fun _ => rfl) rfl (fun z87 G88 => ?_)
    refine r_istore_n 33 [(3, aI z87), (2, aI z3), (1, aI (G2 100 6)), (0, aR 100)] dX15_takeOperand_32 rfl rfl rfl rfl ?_
    refine r_aload_n 34 3 dX15_takeOperand_33 rfl rfl rfl ?_
    refine r_iload_n 35 2 dX15_takeOperand_34 rfl rfl rfl ?_
    refine r_callvV 38 (Mc := MTw_deeper P W) (o := 100) (as := [aI (G2 100 6)]) (st := []) dX15_takeOperand_35 rfl (c_Tw_deeper P W (G2 100 6) G88) lkX15_430 (cmTw_deeper P W) rfl rfl rfl (fun _ => dsT_100 P W _) nn100 rfl (Nat.le_of_ble_eq_true rfl) (Nat.le_of_ble_eq_true rfl) (fun _ => rfl) rfl (fun z89 G90 => ?_)
    refine r_aload_n 39 3 dX15_takeOperand_38 rfl rfl rfl ?_
    refine r_iconst 40 5 dX15_takeOperand_39 rfl rfl ?_
    refine r_iconst 41 0 dX15_takeOperand_40 rfl rfl ?_
    refine r_iload_n 42 2 dX15_takeOperand_41 rfl rfl rfl ?_
    refine r_callvV 45 (Mc := MTw_push P W) (o := 100) (as := [aI 5, aI 0, aI (G2 100 6)]) (st := []) dX15_takeOperand_42 rfl (c_Tw_push P W 5 0 (G2 100 6) G90) lkX15_434 (cmTw_push P W) rfl rfl rfl (fun _ => dsT_100 P W _) nn100 rfl (Nat.le_of_ble_eq_true rfl) (Nat.le_of_ble_eq_true rfl) (fun _ => rfl) rfl (fun z91 G92 => ?_)
    refine r_aload_n 46 3 dX15_takeOperand_45 rfl rfl rfl ?_
    refine r_dup 47 dX15_takeOperand_46 rfl rfl ?_
    refine r_get 50 (aI (G92 100 6)) dX15_takeOperand_47 fkX15_326 (fun _ => dsT_100 P W _) nn100 rfl rfl ?_
    refine r_iconst 51 1 dX15_takeOperand_50 rfl rfl ?_
    refine r_iadd 52 dX15_takeOperand_51 rfl ?_
    refine r_putI 55 dX15_takeOperand_52 fkX15_326 (fun _ => dsT_100 P W _) nn100 rfl rfl ?_
    refine ss_tk (fun G93 => ?_)
    refine r_iconst 56 0 dX15_takeOperand_55 rfl rfl ?_
    exact r_zreturn dX15_takeOperand_56 rfl
theorem c_Tw_takeOperand (P W : Int) (G : St) : MG (MTw_takeOperand P W) [aR 100] G (Tw_takeOperand P W G) := MG.of plX15 (Nat.le_of_ble_eq_true rfl) (s_Tw_takeOperand P W G)
theorem s_Tw_expression_b259 (P W : Int) (x1 : Int) (G : St) : SS (MTw_expression P W) some 259 [(0, aR 100), (1, aI x1)] [] G (Tw_expression_b259 P W x1 G) := by
  refine r_aload_n 260 0 dX15_expression_259 rfl rfl rfl ?_
  refine r_iload_n 261 1 dX15_expression_260 rfl rfl rfl ?_
  refine r_putI 264 dX15_expression_261 fkX15_417 (fun _ => dsT_100 P W _) nn100 rfl rfl ?_
  refine ss_tk (fun G1 => ?_)
  exact r_return dX15_expression_264 rfl
theorem s_Tw_expression_b250 (P W : Int) (x1 : Int) (X9 : Int × Int × St → Option (Int × St)) (hX9 : ∀ s, So (MTw_expression P W) 9 [(0, aR 100), (1, aI x1), (2, aI (s.1)), (3, aI (s.2.1))] [] s.2.2 (X9 s)) (s0 : Int) (G : St) : SS (MTw_expression P W) (lk X9 some) 250 [(0, aR 100), (1, aI x1)] [aI s0] G (Tw_expression_b250 P W x1 s0 G) := by
  refine r_istore_n 251 [(3, aI s0), (0, aR 100), (1, aI x1)] dX15_expression_250 rfl rfl rfl rfl ?_
  refine r_aload_n 252 1 dX15_expression_251 rfl rfl rfl ?_
  refine r_get 255 (aI (G 100 25)) dX15_expression_252 fkX15_463 (fun _ => dsT_100 P W _) nn100 rfl rfl ?_
  refine r_istore_n 256 [(2, aI (G 100 25)), (3, aI s0), (0, aR 100), (1, aI x1)] dX15_expression_255 rfl rfl rfl rfl ?_
  refine r_goto 9 dX15_expression_256 rfl ?_
  refine r_to [2, 3, 0, 1] [(0, aR 100), (1, aI x1), (2, aI (G 100 25)), (3, aI s0)] rfl ?_
  exact SS.back (hX9 (G 100 25, s0, G))
theorem s_Tw_expression_b189 (P W : Int) (x1 : Int) (X9 : Int × Int × St → Option (Int × St)) (hX9 : ∀ s, So (MTw_expression P W) 9 [(0, aR 100), (1, aI x1), (2, aI (s.1)), (3, aI (s.2.1))] [] s.2.2 (X9 s)) (x3 : Int) (G : St) : SS (MTw_expression P W) (lk X9 some) 189 [(0, aR 100), (1, aI x1), (3, aI x3)] [] G (Tw_expression_b189 P W x1 x3 G) := by
  refine r_aload_n 190 0 dX15_expression_189 rfl rfl rfl ?_
  refine r_bipush 192 63 dX15_expression_190 rfl rfl ?_
  refine r_callvI 195 (Mc := MTw_isSign P W) (o := 100) (as := [aI 63]) (st := []) dX15_expression_192 rfl (c_Tw_isSign P W 63 G) lkX15_408 (cmTw_isSign P W) rfl rfl rfl (fun _ => dsT_100 P W _) nn100 rfl (Nat.le_of_ble_eq_true rfl) (Nat.le_of_ble_eq_true rfl) (fun _ => rfl) rfl (fun z6 G7 => ?_)
  refine r_if_eq 237 198 dX15_expression_195 rfl rfl ?_ ?_
  · refine r_aload_n 238 0 dX15_expression_237 rfl rfl rfl ?_
    refine r_iload_n 239 1 dX15_expression_238 rfl rfl rfl ?_
    refine r_callvI 242 (Mc := MTw_closes P W) (o := 100) (as := [aI x1]) (st := []) dX15_expression_239 rfl (c_Tw_closes P W x1 G7) lkX15_460 (cmTw_closes P W) rfl rfl rfl (fun _ => dsT_100 P W _) nn100 rfl (Nat.le_of_ble_eq_true rfl) (Nat.le_of_ble_eq_true rfl) (fun _ => rfl) rfl (fun z8 G9 => ?_)
    refine SS.phi (fun VV_ => Tw_expression_b250 P W x1 VV_ G9) ?_
    refine r_if_ne 249 245 dX15_expression_242 rfl rfl ?_ ?_
    · refine r_iconst 250 0 dX15_expression_249 rfl rfl ?_
      refine r_to [0, 1] [(0, aR 100), (1, aI x1)] rfl ?_
      exact s_Tw_expression_b250 P W x1 X9 hX9 0 G9
    · refine r_iconst 246 1 dX15_expression_245 rfl rfl ?_
      refine r_goto 250 dX15_expression_246 rfl ?_
      refine r_to [0, 1] [(0, aR 100), (1, aI x1)] rfl ?_
      exact s_Tw_expression_b250 P W x1 X9 hX9 1 G9
  · refine r_aload_n 199 0 dX15_expression_198 rfl rfl rfl ?_
    refine r_iload_n 200 1 dX15_expression_199 rfl rfl rfl ?_
    refine r_iconst 201 0 dX15_expression_200 rfl rfl ?_
    refine r_callvV 204 (Mc := MTw_reduce P W) (o := 100) (as := [aI x1, aI 0]) (st := []) dX15_expression_201 rfl (c_Tw_reduce P W x1 0 G7) lkX15_427 (cmTw_reduce P W) rfl rfl rfl (fun _ => dsT_100 P W _) nn100 rfl (Nat.le_of_ble_eq_true rfl) (Nat.le_of_ble_eq_true rfl) (fun _ => rfl) rfl (fun z10 G11 => ?_)
    refine r_aload_n 205 0 dX15_expression_204 rfl rfl rfl ?_
    refine r_aload_n 206 0 dX15_expression_205 rfl rfl rfl ?_
    refine r_get 209 (aI (G11 100 6)) dX15_expression_206 fkX15_326 (fun _ => dsT_100 P W _) nn100 rfl rfl ?_
    refine r_callvV 212 (Mc := MTw_deeper P W) (o := 100) (as := [aI (G11 100 6)]) (st := []) dX15_expression_209 rfl (c_Tw_deeper P W (G11 100 6) G11) lkX15_430 (cmTw_deeper P W) rfl rfl rfl (fun _ => dsT_100 P W _) nn100 rfl (Nat.le_of_ble_eq_true rfl) (Nat.le_of_ble_eq_true rfl) (fun _ => rfl) rfl (fun z12 G13 => ?_)
    refine r_aload_n 213 0 dX15_expression_212 rfl rfl rfl ?_
    refine r_iconst 214 3 dX15_expression_213 rfl rfl ?_
    refine r_iconst 215 0 dX15_expression_214 rfl rfl ?_
    refine r_aload_n 216 0 dX15_expression_215 rfl rfl rfl ?_
    refine r_get 219 (aI (G13 100 6)) dX15_expression_216 fkX15_326 (fun _ => dsT_100 P W _) nn100 rfl rfl ?_
    refine r_callvV 222 (Mc := MTw_push P W) (o := 100) (as := [aI 3, aI 0, aI (G13 100 6)]) (st := []) dX15_expression_219 rfl (c_Tw_push P W 3 0 (G13 100 6) G13) lkX15_434 (cmTw_push P W) rfl rfl rfl (fun _ => dsT_100 P W _) nn100 rfl (Nat.le_of_ble_eq_true rfl) (Nat.le_of_ble_eq_true rfl) (fun _ => rfl) rfl (fun z14 G15 => ?_)
    refine r_aload_n 223 0 dX15_expression_222 rfl rfl rfl ?_
    refine r_dup 224 dX15_expression_223 rfl rfl ?_
    refine r_get 227 (aI (G15 100 6)) dX15_expression_224 fkX15_326 (fun _ => dsT_100 P W _) nn100 rfl rfl ?_
    refine r_iconst 228 1 dX15_expression_227 rfl rfl ?_
    refine r_iadd 229 dX15_expression_228 rfl ?_
    refine r_putI 232 dX15_expression_229 fkX15_326 (fun _ => dsT_100 P W _) nn100 rfl rfl ?_
    refine ss_tk (fun G16 => ?_)
    refine r_iconst 233 1 dX15_expression_232 rfl rfl ?_
    refine r_istore_n 234 [(2, aI 1), (0, aR 100), (1, aI x1), (3, aI x3)] dX15_expression_233 rfl rfl rfl rfl ?_
    refine r_goto 256 dX15_expression_234 rfl ?_
    refine r_goto 9 dX15_expression_256 rfl ?_
    refine r_to [1, 2, 0, 3] [(0, aR 100), (1, aI x1), (2, aI 1), (3, aI x3)] rfl ?_
    exact SS.back (hX9 (1, x3, G16))
theorem s_Tw_expression_b180 (P W : Int) (x1 : Int) (X9 : Int × Int × St → Option (Int × St)) (hX9 : ∀ s, So (MTw_expression P W) 9 [(0, aR 100), (1, aI x1), (2, aI (s.1)), (3, aI (s.2.1))] [] s.2.2 (X9 s)) (x3 : Int) (s0 : Int) (s1 : Int) (G : St) : SS (MTw_expression P W) (lk X9 some) 180 [(0, aR 100), (1, aI x1), (3, aI x3)] [aI s0, aI s1, aR 100] G (Tw_expression_b180 P W x1 x3 s0 s1 G) := by
  refine r_iadd 181 dX15_expression_180 rfl ?_
  refine r_putI 184 dX15_expression_181 fkX15_326 (fun _ => dsT_100 P W _) nn100 rfl rfl ?_
  refine ss_tk (fun G25 => ?_)
  refine r_iconst 185 1 dX15_expression_184 rfl rfl ?_
  refine r_istore_n 186 [(2, aI 1), (0, aR 100), (1, aI x1), (3, aI x3)] dX15_expression_185 rfl rfl rfl rfl ?_
  refine r_goto 256 dX15_expression_186 rfl ?_
  refine r_goto 9 dX15_expression_256 rfl ?_
  refine r_to [1, 2, 0, 3] [(0, aR 100), (1, aI x1), (2, aI 1), (3, aI x3)] rfl ?_
  exact SS.back (hX9 (1, x3, G25))
theorem s_Tw_expression_b142 (P W : Int) (x1 : Int) (X9 : Int × Int × St → Option (Int × St)) (hX9 : ∀ s, So (MTw_expression P W) 9 [(0, aR 100), (1, aI x1), (2, aI (s.1)), (3, aI (s.2.1))] [] s.2.2 (X9 s)) (x3 : Int) (x4 : Int) (G : St) : SS (MTw_expression P W) (lk X9 some) 142 [(0, aR 100), (1, aI x1), (3, aI x3), (4, aI x4)] [] G (Tw_expression_b142 P W x1 x3 x4 G) := by
  refine r_aload_n 143 0 dX15_expression_142 rfl rfl rfl ?_
  refine r_iload_n 144 1 dX15_expression_143 rfl rfl rfl ?_
  refine r_iload 146 3 dX15_expression_144 rfl rfl ?_
  refine r_callsI 149 (Mc := MTw_rank P W) (as := [aI x4]) (st := [aI x1, aR 100]) dX15_expression_146 rfl (c_Tw_rank P W x4 G) q2415 (cmTw_rank P W) rfl rfl rfl (Nat.le_of_ble_eq_true rfl) (Nat.le_of_ble_eq_true rfl) (fun _ => rfl) rfl (fun z17 G18 => ?_)
  refine r_callvV 152 (Mc := MTw_reduce P W) (o := 100) (as := [aI x1, aI z17]) (st := []) dX15_expression_149 rfl (c_Tw_reduce P W x1 z17 G18) lkX15_427 (cmTw_reduce P W) rfl rfl rfl (fun _ => dsT_100 P W _) nn100 rfl (Nat.le_of_ble_eq_true rfl) (Nat.le_of_ble_eq_true rfl) (fun _ => rfl) rfl (fun z19 G20 => ?_)
  refine r_aload_n 153 0 dX15_expression_152 rfl rfl rfl ?_
  refine r_iconst 154 1 dX15_expression_153 rfl rfl ?_
  refine r_iload 156 3 dX15_expression_154 rfl rfl ?_
  refine r_aload_n 157 0 dX15_expression_156 rfl rfl rfl ?_
  refine r_get 160 (aI (G20 100 6)) dX15_expression_157 fkX15_326 (fun _ => dsT_100 P W _) nn100 rfl rfl ?_
  refine r_callvV 163 (Mc := MTw_push P W) (o := 100) (as := [aI 1, aI x4, aI (G20 100 6)]) (st := []) dX15_expression_160 rfl (c_Tw_push P W 1 x4 (G20 100 6) G20) lkX15_434 (cmTw_push P W) rfl rfl rfl (fun _ => dsT_100 P W _) nn100 rfl (Nat.le_of_ble_eq_true rfl) (Nat.le_of_ble_eq_true rfl) (fun _ => rfl) rfl (fun z21 G22 => ?_)
  refine r_aload_n 164 0 dX15_expression_163 rfl rfl rfl ?_
  refine r_dup 165 dX15_expression_164 rfl rfl ?_
  refine r_get 168 (aI (G22 100 6)) dX15_expression_165 fkX15_326 (fun _ => dsT_100 P W _) nn100 rfl rfl ?_
  refine r_aload_n 169 0 dX15_expression_168 rfl rfl rfl ?_
  refine r_callvI 172 (Mc := MTw_isPair P W) (o := 100) (as := []) (st := [aI (G22 100 6), aR 100]) dX15_expression_169 rfl (c_Tw_isPair P W G22) lkX15_405 (cmTw_isPair P W) rfl rfl rfl (fun _ => dsT_100 P W _) nn100 rfl (Nat.le_of_ble_eq_true rfl) (Nat.le_of_ble_eq_true rfl) (fun _ => rfl) rfl (fun z23 G24 => ?_)
  refine SS.phi (fun VV_ => Tw_expression_b180 P W x1 x3 VV_ (G22 100 6) G24) ?_
  refine r_if_eq 179 175 dX15_expression_172 rfl rfl ?_ ?_
  · refine r_iconst 180 1 dX15_expression_179 rfl rfl ?_
    refine r_to [0, 1, 2] [(0, aR 100), (1, aI x1), (3, aI x3)] rfl ?_
    exact s_Tw_expression_b180 P W x1 X9 hX9 x3 1 (G22 100 6) G24
  · refine r_iconst 176 2 dX15_expression_175 rfl rfl ?_
    refine r_goto 180 dX15_expression_176 rfl ?_
    refine r_to [0, 1, 2] [(0, aR 100), (1, aI x1), (3, aI x3)] rfl ?_
    exact s_Tw_expression_b180 P W x1 X9 hX9 x3 2 (G22 100 6) G24
theorem s_Tw_expression_b77 (P W : Int) (x1 : Int) (X9 : Int × Int × St → Option (Int × St)) (hX9 : ∀ s, So (MTw_expression P W) 9 [(0, aR 100), (1, aI x1), (2, aI (s.1)), (3, aI (s.2.1))] [] s.2.2 (X9 s)) (x2 : Int) (x3 : Int) (s0 : Int) (G : St) : SS (MTw_expression P W) (lk X9 some) 77 [(0, aR 100), (1, aI x1), (2, aI x2), (3, aI x3)] [aI s0] G (Tw_expression_b77 P W x1 x2 x3 s0 G) := by
  refine r_istore 79 [(5, aI s0), (0, aR 100), (1, aI x1), (2, aI x2), (3, aI x3)] dX15_expression_77 rfl rfl rfl ?_
  refine r_iload_n 80 3 dX15_expression_79 rfl rfl rfl ?_
  refine r_if_ne 9 83 dX15_expression_80 rfl rfl ?_ ?_
  · refine r_to [1, 2, 3, 4] [(0, aR 100), (1, aI x1), (2, aI x2), (3, aI x3)] rfl ?_
    exact SS.back (hX9 (x2, x3, G))
  · refine r_iload 85 0 dX15_expression_83 rfl rfl ?_
    refine r_if_ne 9 88 dX15_expression_85 rfl rfl ?_ ?_
    · refine r_to [1, 2, 3, 4] [(0, aR 100), (1, aI x1), (2, aI x2), (3, aI x3)] rfl ?_
      exact SS.back (hX9 (x2, x3, G))
    · refine r_aload_n 89 1 dX15_expression_88 rfl rfl rfl ?_
      refine r_iload_n 90 2 dX15_expression_89 rfl rfl rfl ?_
      refine r_callvV 93 (Mc := MTw_signsOver P W) (o := 100) (as := [aI x1]) (st := []) dX15_expression_90 rfl (c_Tw_signsOver P W x1 G) lkX15_451 (cmTw_signsOver P W) rfl rfl rfl (fun _ => dsT_100 P W _) nn100 rfl (Nat.le_of_ble_eq_true rfl) (Nat.le_of_ble_eq_true rfl) (fun _ => rfl) rfl (fun z30 G31 => ?_)
      refine r_goto 9 dX15_expression_93 rfl ?_
      refine r_to [1, 2, 3, 4] [(0, aR 100), (1, aI x1), (2, aI x2), (3, aI x3)] rfl ?_
      exact SS.back (hX9 (x2, x3, G31))
theorem s_Tw_expression_b42 (P W : Int) (x1 : Int) (X9 : Int × Int × St → Option (Int × St)) (hX9 : ∀ s, So (MTw_expression P W) 9 [(0, aR 100), (1, aI x1), (2, aI (s.1)), (3, aI (s.2.1))] [] s.2.2 (X9 s)) (x3 : Int) (x4 : Int) (s0 : Int) (G : St) : SS (MTw_expression P W) (lk X9 some) 42 [(0, aR 100), (1, aI x1), (3, aI x3), (4, aI x4)] [aI s0] G (Tw_expression_b42 P W x1 x3 x4 s0 G) := by
  refine r_istore_n 43 [(2, aI s0), (0, aR 100), (1, aI x1), (3, aI x3), (4, aI x4)] dX15_expression_42 rfl rfl rfl rfl ?_
  refine r_iload_n 44 0 dX15_expression_43 rfl rfl rfl ?_
  refine r_if_ne 76 47 dX15_expression_44 rfl rfl ?_ ?_
  · refine r_iconst 77 0 dX15_expression_76 rfl rfl ?_
    refine r_to [1, 2, 0, 3] [(0, aR 100), (1, aI x1), (2, aI s0), (3, aI x3)] rfl ?_
    exact s_Tw_expression_b77 P W x1 X9 hX9 s0 x3 0 G
  · refine r_aload_n 48 1 dX15_expression_47 rfl rfl rfl ?_
    refine r_get 51 (aI (G 100 20)) dX15_expression_48 fkX15_417 (fun _ => dsT_100 P W _) nn100 rfl rfl ?_
    refine r_iload 53 4 dX15_expression_51 rfl rfl ?_
    refine r_icmp_le 76 56 dX15_expression_53 rfl rfl ?_ ?_
    · refine r_iconst 77 0 dX15_expression_76 rfl rfl ?_
      refine r_to [1, 2, 0, 3] [(0, aR 100), (1, aI x1), (2, aI s0), (3, aI x3)] rfl ?_
      exact s_Tw_expression_b77 P W x1 X9 hX9 s0 x3 0 G
    · refine r_aload_n 57 1 dX15_expression_56 rfl rfl rfl ?_
      refine r_get 60 (aR 122) dX15_expression_57 fkX15_38 (fun _ => dsT_100 P W _) nn100 rfl rfl ?_
      refine r_aload_n 61 1 dX15_expression_60 rfl rfl rfl ?_
      refine r_get 64 (aI (G 100 20)) dX15_expression_61 fkX15_417 (fun _ => dsT_100 P W _) nn100 rfl rfl ?_
      refine r_iconst 65 1 dX15_expression_64 rfl rfl ?_
      refine r_isub 66 dX15_expression_65 rfl ?_
      refine r_iald 67 dX15_expression_66 (fun _ _ _ => dsT_122 P W _) (fun _ _ => nn122) rfl ?_
      refine r_bipush 69 7 dX15_expression_67 rfl rfl ?_
      refine SS.phi (fun VV_ => Tw_expression_b77 P W x1 s0 x3 VV_ G) ?_
      refine r_icmp_ne 76 72 dX15_expression_69 rfl rfl ?_ ?_
      · refine r_iconst 77 0 dX15_expression_76 rfl rfl ?_
        refine r_to [1, 2, 0, 3] [(0, aR 100), (1, aI x1), (2, aI s0), (3, aI x3)] rfl ?_
        exact s_Tw_expression_b77 P W x1 X9 hX9 s0 x3 0 G
      · refine r_iconst 73 1 dX15_expression_72 rfl rfl ?_
        refine r_goto 77 dX15_expression_73 rfl ?_
        refine r_to [1, 2, 0, 3] [(0, aR 100), (1, aI x1), (2, aI s0), (3, aI x3)] rfl ?_
        exact s_Tw_expression_b77 P W x1 X9 hX9 s0 x3 1 G
theorem s_Tw_expression_s9 (P W : Int) (x1 : Int) (X9 : Int × Int × St → Option (Int × St)) (hX9 : ∀ s, So (MTw_expression P W) 9 [(0, aR 100), (1, aI x1), (2, aI (s.1)), (3, aI (s.2.1))] [] s.2.2 (X9 s)) (x2 : Int) (x3 : Int) (G : St) : SS (MTw_expression P W) (lk X9 some) 9 [(0, aR 100), (1, aI x1), (2, aI x2), (3, aI x3)] [] G (Tw_expression_s9 P W x1 x2 x3 G) := by
  refine r_aload_n 10 0 dX15_expression_9 rfl rfl rfl ?_
  refine r_get 13 (aI (G 100 7)) dX15_expression_10 fkX15_323 (fun _ => dsT_100 P W _) nn100 rfl rfl ?_
  refine r_if_ne 259 16 dX15_expression_13 rfl rfl ?_ ?_
  · refine SS.ex ?_
    refine r_to [0, 1] [(0, aR 100), (1, aI x1)] rfl ?_
    exact s_Tw_expression_b259 P W x1 G
  · refine r_iload_n 17 3 dX15_expression_16 rfl rfl rfl ?_
    refine r_if_ne 259 20 dX15_expression_17 rfl rfl ?_ ?_
    · refine SS.ex ?_
      refine r_to [0, 1] [(0, aR 100), (1, aI x1)] rfl ?_
      exact s_Tw_expression_b259 P W x1 G
    · refine r_iload_n 21 2 dX15_expression_20 rfl rfl rfl ?_
      refine r_if_eq 96 24 dX15_expression_21 rfl rfl ?_ ?_
      · refine r_aload_n 97 0 dX15_expression_96 rfl rfl rfl ?_
        refine r_callvV 100 (Mc := MTw_gap P W) (o := 100) (as := []) (st := []) dX15_expression_97 rfl (c_Tw_gap P W G) lkX15_383 (cmTw_gap P W) rfl rfl rfl (fun _ => dsT_100 P W _) nn100 rfl (Nat.le_of_ble_eq_true rfl) (Nat.le_of_ble_eq_true rfl) (fun _ => rfl) rfl (fun z2 G3 => ?_)
        refine r_aload_n 101 0 dX15_expression_100 rfl rfl rfl ?_
        refine r_callvI 104 (Mc := MTw_operator P W) (o := 100) (as := []) (st := []) dX15_expression_101 rfl (c_Tw_operator P W G3) lkX15_454 (cmTw_operator P W) rfl rfl rfl (fun _ => dsT_100 P W _) nn100 rfl (Nat.le_of_ble_eq_true rfl) (Nat.le_of_ble_eq_true rfl) (fun _ => rfl) rfl (fun z4 G5 => ?_)
        refine r_istore 106 [(4, aI z4), (0, aR 100), (1, aI x1), (2, aI x2), (3, aI x3)] dX15_expression_104 rfl rfl rfl ?_
        refine r_iload 108 0 dX15_expression_106 rfl rfl ?_
        refine r_if_le 189 111 dX15_expression_108 rfl rfl ?_ ?_
        · refine r_to [1, 2, 4] [(0, aR 100), (1, aI x1), (3, aI x3)] rfl ?_
          exact s_Tw_expression_b189 P W x1 X9 hX9 x3 G5
        · refine r_aload_n 112 1 dX15_expression_111 rfl rfl rfl ?_
          refine r_get 115 (aI (G5 100 20)) dX15_expression_112 fkX15_417 (fun _ => dsT_100 P W _) nn100 rfl rfl ?_
          refine r_iload_n 116 2 dX15_expression_115 rfl rfl rfl ?_
          refine r_icmp_le 142 119 dX15_expression_116 rfl rfl ?_ ?_
          · refine r_to [1, 2, 4, 0] [(0, aR 100), (1, aI x1), (3, aI x3), (4, aI z4)] rfl ?_
            exact s_Tw_expression_b142 P W x1 X9 hX9 x3 z4 G5
          · refine r_aload_n 120 1 dX15_expression_119 rfl rfl rfl ?_
            refine r_get 123 (aR 122) dX15_expression_120 fkX15_38 (fun _ => dsT_100 P W _) nn100 rfl rfl ?_
            refine r_aload_n 124 1 dX15_expression_123 rfl rfl rfl ?_
            refine r_get 127 (aI (G5 100 20)) dX15_expression_124 fkX15_417 (fun _ => dsT_100 P W _) nn100 rfl rfl ?_
            refine r_iconst 128 1 dX15_expression_127 rfl rfl ?_
            refine r_isub 129 dX15_expression_128 rfl ?_
            refine r_iald 130 dX15_expression_129 (fun _ _ _ => dsT_122 P W _) (fun _ _ => nn122) rfl ?_
            refine r_bipush 132 7 dX15_expression_130 rfl rfl ?_
            refine r_icmp_ne 142 135 dX15_expression_132 rfl rfl ?_ ?_
            · refine r_to [1, 2, 4, 0] [(0, aR 100), (1, aI x1), (3, aI x3), (4, aI z4)] rfl ?_
              exact s_Tw_expression_b142 P W x1 X9 hX9 x3 z4 G5
            · refine r_aload_n 136 1 dX15_expression_135 rfl rfl rfl ?_
              refine r_callvI 139 (Mc := MTw_isFresh P W) (o := 100) (as := []) (st := []) dX15_expression_136 rfl (c_Tw_isFresh P W G5) lkX15_457 (cmTw_isFresh P W) rfl rfl rfl (fun _ => dsT_100 P W _) nn100 rfl (Nat.le_of_ble_eq_true rfl) (Nat.le_of_ble_eq_true rfl) (fun _ => rfl) rfl (fun z26 G27 => ?_)
              refine r_if_ne 189 142 dX15_expression_139 rfl rfl ?_ ?_
              · refine r_to [1, 2, 4] [(0, aR 100), (1, aI x1), (3, aI x3)] rfl ?_
                exact s_Tw_expression_b189 P W x1 X9 hX9 x3 G27
              · refine r_to [1, 2, 4, 0] [(0, aR 100), (1, aI x1), (3, aI x3), (4, aI z4)] rfl ?_
                exact s_Tw_expression_b142 P W x1 X9 hX9 x3 z4 G27
      · refine r_aload_n 25 0 dX15_expression_24 rfl rfl rfl ?_
        refine r_get 28 (aI (G 100 20)) dX15_expression_25 fkX15_417 (fun _ => dsT_100 P W _) nn100 rfl rfl ?_
        refine r_istore 30 [(4, aI (G 100 20)), (0, aR 100), (1, aI x1), (2, aI x2), (3, aI x3)] dX15_expression_28 rfl rfl rfl ?_
        refine r_aload_n 31 1 dX15_expression_30 rfl rfl rfl ?_
        refine r_callvI 34 (Mc := MTw_takeOperand P W) (o := 100) (as := []) (st := []) dX15_expression_31 rfl (c_Tw_takeOperand P W G) lkX15_448 (cmTw_takeOperand P W) rfl rfl rfl (fun _ => dsT_100 P W _) nn100 rfl (Nat.le_of_ble_eq_true rfl) (Nat.le_of_ble_eq_true rfl) (fun _ => rfl) rfl (fun z28 G29 => ?_)
        refine SS.phi (fun VV_ => Tw_expression_b42 P W x1 x3 (G 100 20) VV_ G29) ?_
        refine r_if_ne 41 37 dX15_expression_34 rfl rfl ?_ ?_
        · refine r_iconst 42 0 dX15_expression_41 rfl rfl ?_
          refine r_to [1, 2, 4, 0] [(0, aR 100), (1, aI x1), (3, aI x3), (4, aI (G 100 20))] rfl ?_
          exact s_Tw_expression_b42 P W x1 X9 hX9 x3 (G 100 20) 0 G29
        · refine r_iconst 38 1 dX15_expression_37 rfl rfl ?_
          refine r_goto 42 dX15_expression_38 rfl ?_
          refine r_to [1, 2, 4, 0] [(0, aR 100), (1, aI x1), (3, aI x3), (4, aI (G 100 20))] rfl ?_
          exact s_Tw_expression_b42 P W x1 X9 hX9 x3 (G 100 20) 1 G29
theorem sl_Tw_expression_9 (P W : Int) (x1 : Int) (x2 : Int) (x3 : Int) (G : St) : SS (MTw_expression P W) some 9 [(0, aR 100), (1, aI x1), (2, aI x2), (3, aI x3)] [] G (Tw_expression_l9 P W x1 x2 x3 G) := by
  exact SS.loop (σ := Int × Int × St) (fun s => [(0, aR 100), (1, aI x1), (2, aI (s.1)), (3, aI (s.2.1))]) (fun s => s.2.2) (fun s => Tw_expression_s9 P W x1 s.1 s.2.1 s.2.2) (fun X9 hX9 s => s_Tw_expression_s9 P W x1  X9 hX9 s.1 s.2.1 s.2.2) (x2, x3, G)
theorem s_Tw_expression (P W : Int) (G : St) : SS (MTw_expression P W) some 0 [(0, aR 100)] [] G (Tw_expression P W G) := by
  refine r_aload_n 1 0 dX15_expression_0 rfl rfl rfl ?_
  refine r_get 4 (aI (G 100 20)) dX15_expression_1 fkX15_417 (fun _ => dsT_100 P W _) nn100 rfl rfl ?_
  refine r_istore_n 5 [(1, aI (G 100 20)), (0, aR 100)] dX15_expression_4 rfl rfl rfl rfl ?_
  refine r_iconst 6 1 dX15_expression_5 rfl rfl ?_
  refine r_istore_n 7 [(2, aI 1), (1, aI (G 100 20)), (0, aR 100)] dX15_expression_6 rfl rfl rfl rfl ?_
  refine r_iconst 8 0 dX15_expression_7 rfl rfl ?_
  refine r_istore_n 9 [(3, aI 0), (2, aI 1), (1, aI (G 100 20)), (0, aR 100)] dX15_expression_8 rfl rfl rfl rfl ?_
  refine r_to [3, 2, 1, 0] [(0, aR 100), (1, aI (G 100 20)), (2, aI 1), (3, aI 0)] rfl ?_
  exact sl_Tw_expression_9 P W (G 100 20) 1 0 G
theorem c_Tw_expression (P W : Int) (G : St) : MG (MTw_expression P W) [aR 100] G (Tw_expression P W G) := MG.of plX15 (Nat.le_of_ble_eq_true rfl) (s_Tw_expression P W G)
theorem s_Tw_assignment_b159 (P W : Int) (x1 : Int) (x2 : Int) (s0 : Int) (G : St) : SS (MTw_assignment P W) some 159 [(0, aR 100), (1, aI x1), (2, aI x2)] [aI s0, aR 100] G (Tw_assignment_b159 P W x1 x2 s0 G) := by
  refine r_iload_n 160 2 dX15_assignment_159 rfl rfl rfl ?_
  refine r_iconst 161 0 dX15_assignment_160 rfl rfl ?_
  refine r_iload_n 162 1 dX15_assignment_161 rfl rfl rfl ?_
  refine r_callvI 165 (Mc := MTw_put P W) (o := 100) (as := [aI s0, aI x2, aI 0, aI x1]) (st := []) dX15_assignment_162 rfl (c_Tw_put P W s0 x2 0 x1 G) lkX15_423 (cmTw_put P W) rfl rfl rfl (fun _ => dsT_100 P W _) nn100 rfl (Nat.le_of_ble_eq_true rfl) (Nat.le_of_ble_eq_true rfl) (fun _ => rfl) rfl (fun z11 G12 => ?_)
  refine r_istore_n 166 [(3, aI z11), (0, aR 100), (1, aI x1), (2, aI x2)] dX15_assignment_165 rfl rfl rfl rfl ?_
  refine r_aload_n 167 1 dX15_assignment_166 rfl rfl rfl ?_
  refine r_bipush 169 59 dX15_assignment_167 rfl rfl ?_
  refine r_callvV 172 (Mc := MTw_sign P W) (o := 100) (as := [aI 59]) (st := []) dX15_assignment_169 rfl (c_Tw_sign P W 59 G12) lkX15_442 (cmTw_sign P W) rfl rfl rfl (fun _ => dsT_100 P W _) nn100 rfl (Nat.le_of_ble_eq_true rfl) (Nat.le_of_ble_eq_true rfl) (fun _ => rfl) rfl (fun z13 G14 => ?_)
  refine r_aload_n 173 1 dX15_assignment_172 rfl rfl rfl ?_
  refine r_bipush 175 21 dX15_assignment_173 rfl rfl ?_
  refine r_iconst 176 0 dX15_assignment_175 rfl rfl ?_
  refine r_iconst 177 0 dX15_assignment_176 rfl rfl ?_
  refine r_iload_n 178 2 dX15_assignment_177 rfl rfl rfl ?_
  refine r_callvI 181 (Mc := MTw_put P W) (o := 100) (as := [aI 21, aI 0, aI 0, aI x1]) (st := []) dX15_assignment_178 rfl (c_Tw_put P W 21 0 0 x1 G14) lkX15_423 (cmTw_put P W) rfl rfl rfl (fun _ => dsT_100 P W _) nn100 rfl (Nat.le_of_ble_eq_true rfl) (Nat.le_of_ble_eq_true rfl) (fun _ => rfl) rfl (fun z15 G16 => ?_)
  refine r_istore_n 182 [(3, aI z15), (0, aR 100), (1, aI x1), (2, aI x2)] dX15_assignment_181 rfl rfl rfl rfl ?_
  exact r_return dX15_assignment_182 rfl
theorem s_Tw_assignment_b139 (P W : Int) (x1 : Int) (x2 : Int) (x4 : Int) (G : St) : SS (MTw_assignment P W) some 139 [(0, aR 100), (1, aI x1), (2, aI x2), (4, aI x4)] [] G (Tw_assignment_b139 P W x1 x2 x4 G) := by
  refine r_aload_n 140 0 dX15_assignment_139 rfl rfl rfl ?_
  refine r_get 143 (aI (G 100 7)) dX15_assignment_140 fkX15_323 (fun _ => dsT_100 P W _) nn100 rfl rfl ?_
  refine r_if_ne 182 146 dX15_assignment_143 rfl rfl ?_ ?_
  · exact r_return dX15_assignment_182 rfl
  · refine r_aload_n 147 0 dX15_assignment_146 rfl rfl rfl ?_
    refine r_iload 149 3 dX15_assignment_147 rfl rfl ?_
    refine SS.phi (fun VV_ => Tw_assignment_b159 P W x1 x2 VV_ G) ?_
    refine r_if_eq 157 152 dX15_assignment_149 rfl rfl ?_ ?_
    · refine r_bipush 159 32 dX15_assignment_157 rfl rfl ?_
      refine r_to [0, 1, 2] [(0, aR 100), (1, aI x1), (2, aI x2)] rfl ?_
      exact s_Tw_assignment_b159 P W x1 x2 32 G
    · refine r_bipush 154 34 dX15_assignment_152 rfl rfl ?_
      refine r_goto 159 dX15_assignment_154 rfl ?_
      refine r_to [0, 1, 2] [(0, aR 100), (1, aI x1), (2, aI x2)] rfl ?_
      exact s_Tw_assignment_b159 P W x1 x2 34 G
theorem s_Tw_assignment_b128 (P W : Int) (x1 : Int) (x2 : Int) (x4 : Int) (G : St) : SS (MTw_assignment P W) some 128 [(0, aR 100), (1, aI x1), (2, aI x2), (4, aI x4)] [] G (Tw_assignment_b128 P W x1 x2 x4 G) := by
  refine r_aload_n 129 0 dX15_assignment_128 rfl rfl rfl ?_
  refine r_get 132 (aI (G 100 7)) dX15_assignment_129 fkX15_323 (fun _ => dsT_100 P W _) nn100 rfl rfl ?_
  refine r_if_ne 139 135 dX15_assignment_132 rfl rfl ?_ ?_
  · exact s_Tw_assignment_b139 P W x1 x2 x4 G
  · refine r_aload_n 136 0 dX15_assignment_135 rfl rfl rfl ?_
    refine r_callvV 139 (Mc := MTw_expression P W) (o := 100) (as := []) (st := []) dX15_assignment_136 rfl (c_Tw_expression P W G) lkX15_496 (cmTw_expression P W) rfl rfl rfl (fun _ => dsT_100 P W _) nn100 rfl (Nat.le_of_ble_eq_true rfl) (Nat.le_of_ble_eq_true rfl) (fun _ => rfl) rfl (fun z17 G18 => ?_)
    exact s_Tw_assignment_b139 P W x1 x2 x4 G18
theorem s_Tw_assignment_b115 (P W : Int) (x1 : Int) (x2 : Int) (x4 : Int) (G : St) : SS (MTw_assignment P W) some 115 [(0, aR 100), (1, aI x1), (2, aI x2), (4, aI x4)] [] G (Tw_assignment_b115 P W x1 x2 x4 G) := by
  refine r_aload_n 116 0 dX15_assignment_115 rfl rfl rfl ?_
  refine r_get 119 (aI (G 100 7)) dX15_assignment_116 fkX15_323 (fun _ => dsT_100 P W _) nn100 rfl rfl ?_
  refine r_if_ne 128 122 dX15_assignment_119 rfl rfl ?_ ?_
  · exact s_Tw_assignment_b128 P W x1 x2 x4 G
  · refine r_aload_n 123 0 dX15_assignment_122 rfl rfl rfl ?_
    refine r_bipush 125 61 dX15_assignment_123 rfl rfl ?_
    refine r_callvV 128 (Mc := MTw_sign P W) (o := 100) (as := [aI 61]) (st := []) dX15_assignment_125 rfl (c_Tw_sign P W 61 G) lkX15_442 (cmTw_sign P W) rfl rfl rfl (fun _ => dsT_100 P W _) nn100 rfl (Nat.le_of_ble_eq_true rfl) (Nat.le_of_ble_eq_true rfl) (fun _ => rfl) rfl (fun z19 G20 => ?_)
    exact s_Tw_assignment_b128 P W x1 x2 x4 G20
theorem s_Tw_assignment_b48 (P W : Int) (x1 : Int) (x2 : Int) (x4 : Int) (s0 : Int) (G : St) : SS (MTw_assignment P W) some 48 [(0, aR 100), (1, aI x1), (2, aI x2), (4, aI x4)] [aI s0, aR 100] G (Tw_assignment_b48 P W x1 x2 x4 s0 G) := by
  refine r_iload_n 49 2 dX15_assignment_48 rfl rfl rfl ?_
  refine r_iconst 50 0 dX15_assignment_49 rfl rfl ?_
  refine r_iload_n 51 1 dX15_assignment_50 rfl rfl rfl ?_
  refine r_callvI 54 (Mc := MTw_put P W) (o := 100) (as := [aI s0, aI x2, aI 0, aI x1]) (st := []) dX15_assignment_51 rfl (c_Tw_put P W s0 x2 0 x1 G) lkX15_423 (cmTw_put P W) rfl rfl rfl (fun _ => dsT_100 P W _) nn100 rfl (Nat.le_of_ble_eq_true rfl) (Nat.le_of_ble_eq_true rfl) (fun _ => rfl) rfl (fun z9 G10 => ?_)
  refine r_istore_n 55 [(3, aI z9), (0, aR 100), (1, aI x1), (2, aI x2), (4, aI x4)] dX15_assignment_54 rfl rfl rfl rfl ?_
  refine r_iload 57 4 dX15_assignment_55 rfl rfl ?_
  refine r_if_eq 115 60 dX15_assignment_57 rfl rfl ?_ ?_
  · refine r_to [1, 2, 3, 4] [(0, aR 100), (1, aI x1), (2, aI x2), (4, aI x4)] rfl ?_
    exact s_Tw_assignment_b115 P W x1 x2 x4 G10
  · refine r_aload_n 61 1 dX15_assignment_60 rfl rfl rfl ?_
    refine r_aload_n 62 1 dX15_assignment_61 rfl rfl rfl ?_
    refine r_get 65 (aI (G10 100 6)) dX15_assignment_62 fkX15_326 (fun _ => dsT_100 P W _) nn100 rfl rfl ?_
    refine r_callvV 68 (Mc := MTw_deeper P W) (o := 100) (as := [aI (G10 100 6)]) (st := []) dX15_assignment_65 rfl (c_Tw_deeper P W (G10 100 6) G10) lkX15_430 (cmTw_deeper P W) rfl rfl rfl (fun _ => dsT_100 P W _) nn100 rfl (Nat.le_of_ble_eq_true rfl) (Nat.le_of_ble_eq_true rfl) (fun _ => rfl) rfl (fun z21 G22 => ?_)
    refine r_aload_n 69 1 dX15_assignment_68 rfl rfl rfl ?_
    refine r_dup 70 dX15_assignment_69 rfl rfl ?_
    refine r_get 73 (aI (G22 100 6)) dX15_assignment_70 fkX15_326 (fun _ => dsT_100 P W _) nn100 rfl rfl ?_
    refine r_iconst 74 1 dX15_assignment_73 rfl rfl ?_
    refine r_iadd 75 dX15_assignment_74 rfl ?_
    refine r_putI 78 dX15_assignment_75 fkX15_326 (fun _ => dsT_100 P W _) nn100 rfl rfl ?_
    refine ss_tk (fun G23 => ?_)
    refine r_aload_n 79 1 dX15_assignment_78 rfl rfl rfl ?_
    refine r_callvV 82 (Mc := MTw_expression P W) (o := 100) (as := []) (st := []) dX15_assignment_79 rfl (c_Tw_expression P W G23) lkX15_496 (cmTw_expression P W) rfl rfl rfl (fun _ => dsT_100 P W _) nn100 rfl (Nat.le_of_ble_eq_true rfl) (Nat.le_of_ble_eq_true rfl) (fun _ => rfl) rfl (fun z24 G25 => ?_)
    refine r_aload_n 83 1 dX15_assignment_82 rfl rfl rfl ?_
    refine r_get 86 (aI (G25 100 7)) dX15_assignment_83 fkX15_323 (fun _ => dsT_100 P W _) nn100 rfl rfl ?_
    refine r_if_ne 115 89 dX15_assignment_86 rfl rfl ?_ ?_
    · refine r_to [1, 2, 3, 4] [(0, aR 100), (1, aI x1), (2, aI x2), (4, aI x4)] rfl ?_
      exact s_Tw_assignment_b115 P W x1 x2 x4 G25
    · refine r_aload_n 90 1 dX15_assignment_89 rfl rfl rfl ?_
      refine r_bipush 92 42 dX15_assignment_90 rfl rfl ?_
      refine r_iload_n 93 3 dX15_assignment_92 rfl rfl rfl ?_
      refine r_iconst 94 0 dX15_assignment_93 rfl rfl ?_
      refine r_iload_n 95 2 dX15_assignment_94 rfl rfl rfl ?_
      refine r_callvI 98 (Mc := MTw_put P W) (o := 100) (as := [aI 42, aI x2, aI 0, aI x1]) (st := []) dX15_assignment_95 rfl (c_Tw_put P W 42 x2 0 x1 G25) lkX15_423 (cmTw_put P W) rfl rfl rfl (fun _ => dsT_100 P W _) nn100 rfl (Nat.le_of_ble_eq_true rfl) (Nat.le_of_ble_eq_true rfl) (fun _ => rfl) rfl (fun z26 G27 => ?_)
      refine r_istore_n 99 [(3, aI z26), (0, aR 100), (1, aI x1), (2, aI x2), (4, aI x4)] dX15_assignment_98 rfl rfl rfl rfl ?_
      refine r_aload_n 100 1 dX15_assignment_99 rfl rfl rfl ?_
      refine r_bipush 102 93 dX15_assignment_100 rfl rfl ?_
      refine r_callvV 105 (Mc := MTw_sign P W) (o := 100) (as := [aI 93]) (st := []) dX15_assignment_102 rfl (c_Tw_sign P W 93 G27) lkX15_442 (cmTw_sign P W) rfl rfl rfl (fun _ => dsT_100 P W _) nn100 rfl (Nat.le_of_ble_eq_true rfl) (Nat.le_of_ble_eq_true rfl) (fun _ => rfl) rfl (fun z28 G29 => ?_)
      refine r_aload_n 106 1 dX15_assignment_105 rfl rfl rfl ?_
      refine r_dup 107 dX15_assignment_106 rfl rfl ?_
      refine r_get 110 (aI (G29 100 19)) dX15_assignment_107 fkX15_414 (fun _ => dsT_100 P W _) nn100 rfl rfl ?_
      refine r_iconst 111 1 dX15_assignment_110 rfl rfl ?_
      refine r_isub 112 dX15_assignment_111 rfl ?_
      refine r_putI 115 dX15_assignment_112 fkX15_414 (fun _ => dsT_100 P W _) nn100 rfl rfl ?_
      refine ss_tk (fun G30 => ?_)
      refine r_to [1, 2, 3, 4] [(0, aR 100), (1, aI x1), (2, aI x2), (4, aI x4)] rfl ?_
      exact s_Tw_assignment_b115 P W x1 x2 x4 G30
theorem s_Tw_assignment (P W : Int) (x1 : Int) (G : St) : SS (MTw_assignment P W) some 0 [(0, aR 100), (1, aI x1)] [] G (Tw_assignment P W x1 G) := by
  refine r_aload_n 1 0 dX15_assignment_0 rfl rfl rfl ?_
  refine r_callvI 4 (Mc := MTw_name P W) (o := 100) (as := []) (st := []) dX15_assignment_1 rfl (c_Tw_name P W G) lkX15_445 (cmTw_name P W) rfl rfl rfl (fun _ => dsT_100 P W _) nn100 rfl (Nat.le_of_ble_eq_true rfl) (Nat.le_of_ble_eq_true rfl) (fun _ => rfl) rfl (fun z1 G2 => ?_)
  refine r_istore_n 5 [(2, aI z1), (0, aR 100), (1, aI x1)] dX15_assignment_4 rfl rfl rfl rfl ?_
  refine r_aload_n 6 1 dX15_assignment_5 rfl rfl rfl ?_
  refine r_get 9 (aI (G2 100 7)) dX15_assignment_6 fkX15_323 (fun _ => dsT_100 P W _) nn100 rfl rfl ?_
  refine r_if_le 13 12 dX15_assignment_9 rfl rfl ?_ ?_
  · refine r_aload_n 14 1 dX15_assignment_13 rfl rfl rfl ?_
    refine r_bipush 16 20 dX15_assignment_14 rfl rfl ?_
    refine r_iconst 17 0 dX15_assignment_16 rfl rfl ?_
    refine r_iconst 18 0 dX15_assignment_17 rfl rfl ?_
    refine r_iload_n 19 2 dX15_assignment_18 rfl rfl rfl ?_
    refine r_callvI 22 (Mc := MTw_put P W) (o := 100) (as := [aI 20, aI 0, aI 0, aI x1]) (st := []) dX15_assignment_19 rfl (c_Tw_put P W 20 0 0 x1 G2) lkX15_423 (cmTw_put P W) rfl rfl rfl (fun _ => dsT_100 P W _) nn100 rfl (Nat.le_of_ble_eq_true rfl) (Nat.le_of_ble_eq_true rfl) (fun _ => rfl) rfl (fun z3 G4 => ?_)
    refine r_istore_n 23 [(3, aI z3), (2, aI z1), (0, aR 100), (1, aI x1)] dX15_assignment_22 rfl rfl rfl rfl ?_
    refine r_aload_n 24 2 dX15_assignment_23 rfl rfl rfl ?_
    refine r_callvV 27 (Mc := MTw_gap P W) (o := 100) (as := []) (st := []) dX15_assignment_24 rfl (c_Tw_gap P W G4) lkX15_383 (cmTw_gap P W) rfl rfl rfl (fun _ => dsT_100 P W _) nn100 rfl (Nat.le_of_ble_eq_true rfl) (Nat.le_of_ble_eq_true rfl) (fun _ => rfl) rfl (fun z5 G6 => ?_)
    refine r_aload_n 28 2 dX15_assignment_27 rfl rfl rfl ?_
    refine r_bipush 30 91 dX15_assignment_28 rfl rfl ?_
    refine r_callvI 33 (Mc := MTw_isSign P W) (o := 100) (as := [aI 91]) (st := []) dX15_assignment_30 rfl (c_Tw_isSign P W 91 G6) lkX15_408 (cmTw_isSign P W) rfl rfl rfl (fun _ => dsT_100 P W _) nn100 rfl (Nat.le_of_ble_eq_true rfl) (Nat.le_of_ble_eq_true rfl) (fun _ => rfl) rfl (fun z7 G8 => ?_)
    refine r_istore 35 [(4, aI z7), (3, aI z3), (2, aI z1), (0, aR 100), (1, aI x1)] dX15_assignment_33 rfl rfl rfl ?_
    refine r_aload_n 36 3 dX15_assignment_35 rfl rfl rfl ?_
    refine r_iload 38 0 dX15_assignment_36 rfl rfl ?_
    refine SS.phi (fun VV_ => Tw_assignment_b48 P W x1 z1 z7 VV_ G8) ?_
    refine r_if_eq 46 41 dX15_assignment_38 rfl rfl ?_ ?_
    · refine r_bipush 48 31 dX15_assignment_46 rfl rfl ?_
      refine r_to [3, 4, 2, 0] [(0, aR 100), (1, aI x1), (2, aI z1), (4, aI z7)] rfl ?_
      exact s_Tw_assignment_b48 P W x1 z1 z7 31 G8
    · refine r_bipush 43 33 dX15_assignment_41 rfl rfl ?_
      refine r_goto 48 dX15_assignment_43 rfl ?_
      refine r_to [3, 4, 2, 0] [(0, aR 100), (1, aI x1), (2, aI z1), (4, aI z7)] rfl ?_
      exact s_Tw_assignment_b48 P W x1 z1 z7 33 G8
  · exact r_return dX15_assignment_12 rfl
theorem c_Tw_assignment (P W : Int) (x1 : Int) (G : St) : MG (MTw_assignment P W) [aR 100, aI x1] G (Tw_assignment P W x1 G) := MG.of plX15 (Nat.le_of_ble_eq_true rfl) (s_Tw_assignment P W x1 G)
theorem s_Tw_endIf_b46 (P W : Int) (x1 : Int) (G : St) : SS (MTw_endIf P W) some 46 [(0, aR 100), (1, aI x1)] [] G (Tw_endIf_b46 x1 G) := by
  refine r_aload_n 47 0 dX15_endIf_46 rfl rfl rfl ?_
  refine r_bipush 49 21 dX15_endIf_47 rfl rfl ?_
  refine r_iconst 50 0 dX15_endIf_49 rfl rfl ?_
  refine r_iconst 51 0 dX15_endIf_50 rfl rfl ?_
  refine r_aload_n 52 0 dX15_endIf_51 rfl rfl rfl ?_
  refine r_get 55 (aR 118) dX15_endIf_52 fkX15_31 (fun _ => dsT_100 P W _) nn100 rfl rfl ?_
  refine r_iload_n 56 1 dX15_endIf_55 rfl rfl rfl ?_
  refine r_iald 57 dX15_endIf_56 (fun _ _ _ => dsT_118 P W _) (fun _ _ => nn118) rfl ?_
  refine r_callvI 60 (Mc := MTw_put P W) (o := 100) (as := [aI 21, aI 0, aI 0, aI (G 118 x1)]) (st := []) dX15_endIf_57 rfl (c_Tw_put P W 21 0 0 (G 118 x1) G) lkX15_423 (cmTw_put P W) rfl rfl rfl (fun _ => dsT_100 P W _) nn100 rfl (Nat.le_of_ble_eq_true rfl) (Nat.le_of_ble_eq_true rfl) (fun _ => rfl) rfl (fun z4 G5 => ?_)
  refine r_istore_n 61 [(2, aI z4), (0, aR 100), (1, aI x1)] dX15_endIf_60 rfl rfl rfl rfl ?_
  exact r_return dX15_endIf_61 rfl
theorem s_Tw_endIf (P W : Int) (x1 : Int) (G : St) : SS (MTw_endIf P W) some 0 [(0, aR 100), (1, aI x1)] [] G (Tw_endIf x1 G) := by
  refine r_aload_n 1 0 dX15_endIf_0 rfl rfl rfl ?_
  refine r_bipush 3 37 dX15_endIf_1 rfl rfl ?_
  refine r_iload_n 4 1 dX15_endIf_3 rfl rfl rfl ?_
  refine r_iconst 5 0 dX15_endIf_4 rfl rfl ?_
  refine r_aload_n 6 0 dX15_endIf_5 rfl rfl rfl ?_
  refine r_get 9 (aR 118) dX15_endIf_6 fkX15_31 (fun _ => dsT_100 P W _) nn100 rfl rfl ?_
  refine r_iload_n 10 1 dX15_endIf_9 rfl rfl rfl ?_
  refine r_iald 11 dX15_endIf_10 (fun _ _ _ => dsT_118 P W _) (fun _ _ => nn118) rfl ?_
  refine r_callvI 14 (Mc := MTw_put P W) (o := 100) (as := [aI 37, aI x1, aI 0, aI (G 118 x1)]) (st := []) dX15_endIf_11 rfl (c_Tw_put P W 37 x1 0 (G 118 x1) G) lkX15_423 (cmTw_put P W) rfl rfl rfl (fun _ => dsT_100 P W _) nn100 rfl (Nat.le_of_ble_eq_true rfl) (Nat.le_of_ble_eq_true rfl) (fun _ => rfl) rfl (fun z1 G2 => ?_)
  refine r_istore_n 15 [(2, aI z1), (0, aR 100), (1, aI x1)] dX15_endIf_14 rfl rfl rfl rfl ?_
  refine r_aload_n 16 1 dX15_endIf_15 rfl rfl rfl ?_
  refine r_get 19 (aR 117) dX15_endIf_16 fkX15_28 (fun _ => dsT_100 P W _) nn100 rfl rfl ?_
  refine r_iload_n 20 2 dX15_endIf_19 rfl rfl rfl ?_
  refine r_iald 21 dX15_endIf_20 (fun _ _ _ => dsT_117 P W _) (fun _ _ => nn117) rfl ?_
  refine r_if_ne 34 24 dX15_endIf_21 rfl rfl ?_ ?_
  · refine r_aload_n 35 1 dX15_endIf_34 rfl rfl rfl ?_
    refine r_get 38 (aR 117) dX15_endIf_35 fkX15_28 (fun _ => dsT_100 P W _) nn100 rfl rfl ?_
    refine r_aload_n 39 1 dX15_endIf_38 rfl rfl rfl ?_
    refine r_get 42 (aR 117) dX15_endIf_39 fkX15_28 (fun _ => dsT_100 P W _) nn100 rfl rfl ?_
    refine r_iload_n 43 2 dX15_endIf_42 rfl rfl rfl ?_
    refine r_iald 44 dX15_endIf_43 (fun _ _ _ => dsT_117 P W _) (fun _ _ => nn117) rfl ?_
    refine r_iload_n 45 0 dX15_endIf_44 rfl rfl rfl ?_
    refine r_iast 46 dX15_endIf_45 (fun _ _ _ => dsT_117 P W _) (fun _ _ => nn117) rfl ?_
    refine ss_tk (fun G3 => ?_)
    refine r_to [1, 2] [(0, aR 100), (1, aI x1)] rfl ?_
    exact s_Tw_endIf_b46 P W x1 G3
  · refine r_aload_n 25 1 dX15_endIf_24 rfl rfl rfl ?_
    refine r_get 28 (aR 117) dX15_endIf_25 fkX15_28 (fun _ => dsT_100 P W _) nn100 rfl rfl ?_
    refine r_iload_n 29 2 dX15_endIf_28 rfl rfl rfl ?_
    refine r_iload_n 30 0 dX15_endIf_29 rfl rfl rfl ?_
    refine r_iast 31 dX15_endIf_30 (fun _ _ _ => dsT_117 P W _) (fun _ _ => nn117) rfl ?_
    refine ss_tk (fun G6 => ?_)
    refine r_goto 46 dX15_endIf_31 rfl ?_
    refine r_to [1, 2] [(0, aR 100), (1, aI x1)] rfl ?_
    exact s_Tw_endIf_b46 P W x1 G6
theorem c_Tw_endIf (P W : Int) (x1 : Int) (G : St) : MG (MTw_endIf P W) [aR 100, aI x1] G (Tw_endIf x1 G) := MG.of plX15 (Nat.le_of_ble_eq_true rfl) (s_Tw_endIf P W x1 G)
theorem s_Tw_openBlock (P W : Int) (x1 : Int) (x2 : Int) (G : St) : SS (MTw_openBlock P W) some 0 [(0, aR 100), (1, aI x1), (2, aI x2)] [] G (Tw_openBlock x1 x2 G) := by
  refine r_aload_n 1 0 dX15_openBlock_0 rfl rfl rfl ?_
  refine r_callvV 4 (Mc := MTw_gap P W) (o := 100) (as := []) (st := []) dX15_openBlock_1 rfl (c_Tw_gap P W G) lkX15_383 (cmTw_gap P W) rfl rfl rfl (fun _ => dsT_100 P W _) nn100 rfl (Nat.le_of_ble_eq_true rfl) (Nat.le_of_ble_eq_true rfl) (fun _ => rfl) rfl (fun z1 G2 => ?_)
  refine r_aload_n 5 0 dX15_openBlock_4 rfl rfl rfl ?_
  refine r_bipush 7 123 dX15_openBlock_5 rfl rfl ?_
  refine r_callvI 10 (Mc := MTw_isSign P W) (o := 100) (as := [aI 123]) (st := []) dX15_openBlock_7 rfl (c_Tw_isSign P W 123 G2) lkX15_408 (cmTw_isSign P W) rfl rfl rfl (fun _ => dsT_100 P W _) nn100 rfl (Nat.le_of_ble_eq_true rfl) (Nat.le_of_ble_eq_true rfl) (fun _ => rfl) rfl (fun z3 G4 => ?_)
  refine r_if_ne 23 13 dX15_openBlock_10 rfl rfl ?_ ?_
  · refine r_aload_n 24 0 dX15_openBlock_23 rfl rfl rfl ?_
    refine r_aload_n 25 0 dX15_openBlock_24 rfl rfl rfl ?_
    refine r_get 28 (aI (G4 100 6)) dX15_openBlock_25 fkX15_326 (fun _ => dsT_100 P W _) nn100 rfl rfl ?_
    refine r_callvV 31 (Mc := MTw_deeper P W) (o := 100) (as := [aI (G4 100 6)]) (st := []) dX15_openBlock_28 rfl (c_Tw_deeper P W (G4 100 6) G4) lkX15_430 (cmTw_deeper P W) rfl rfl rfl (fun _ => dsT_100 P W _) nn100 rfl (Nat.le_of_ble_eq_true rfl) (Nat.le_of_ble_eq_true rfl) (fun _ => rfl) rfl (fun z5 G6 => ?_)
    refine r_aload_n 32 0 dX15_openBlock_31 rfl rfl rfl ?_
    refine r_dup 33 dX15_openBlock_32 rfl rfl ?_
    refine r_get 36 (aI (G6 100 6)) dX15_openBlock_33 fkX15_326 (fun _ => dsT_100 P W _) nn100 rfl rfl ?_
    refine r_iconst 37 1 dX15_openBlock_36 rfl rfl ?_
    refine r_iadd 38 dX15_openBlock_37 rfl ?_
    refine r_putI 41 dX15_openBlock_38 fkX15_326 (fun _ => dsT_100 P W _) nn100 rfl rfl ?_
    refine ss_tk (fun G7 => ?_)
    refine r_aload_n 42 0 dX15_openBlock_41 rfl rfl rfl ?_
    refine r_get 45 (aR 128) dX15_openBlock_42 fkX15_50 (fun _ => dsT_100 P W _) nn100 rfl rfl ?_
    refine r_aload_n 46 0 dX15_openBlock_45 rfl rfl rfl ?_
    refine r_get 49 (aI (G7 100 26)) dX15_openBlock_46 fkX15_501 (fun _ => dsT_100 P W _) nn100 rfl rfl ?_
    refine r_iload_n 50 1 dX15_openBlock_49 rfl rfl rfl ?_
    refine r_iast 51 dX15_openBlock_50 (fun _ _ _ => dsT_128 P W _) (fun _ _ => nn128) rfl ?_
    refine ss_tk (fun G8 => ?_)
    refine r_aload_n 52 0 dX15_openBlock_51 rfl rfl rfl ?_
    refine r_get 55 (aR 129) dX15_openBlock_52 fkX15_53 (fun _ => dsT_100 P W _) nn100 rfl rfl ?_
    refine r_aload_n 56 0 dX15_openBlock_55 rfl rfl rfl ?_
    refine r_get 59 (aI (G8 100 26)) dX15_openBlock_56 fkX15_501 (fun _ => dsT_100 P W _) nn100 rfl rfl ?_
    refine r_iload_n 60 2 dX15_openBlock_59 rfl rfl rfl ?_
    refine r_iast 61 dX15_openBlock_60 (fun _ _ _ => dsT_129 P W _) (fun _ _ => nn129) rfl ?_
    refine ss_tk (fun G9 => ?_)
    refine r_aload_n 62 0 dX15_openBlock_61 rfl rfl rfl ?_
    refine r_dup 63 dX15_openBlock_62 rfl rfl ?_
    refine r_get 66 (aI (G9 100 26)) dX15_openBlock_63 fkX15_501 (fun _ => dsT_100 P W _) nn100 rfl rfl ?_
    refine r_iconst 67 1 dX15_openBlock_66 rfl rfl ?_
    refine r_iadd 68 dX15_openBlock_67 rfl ?_
    refine r_putI 71 dX15_openBlock_68 fkX15_501 (fun _ => dsT_100 P W _) nn100 rfl rfl ?_
    refine ss_tk (fun G10 => ?_)
    exact r_return dX15_openBlock_71 rfl
  · refine r_aload_n 14 0 dX15_openBlock_13 rfl rfl rfl ?_
    refine r_iconst 15 1 dX15_openBlock_14 rfl rfl ?_
    refine r_aload_n 16 0 dX15_openBlock_15 rfl rfl rfl ?_
    refine r_get 19 (aI (G4 100 6)) dX15_openBlock_16 fkX15_326 (fun _ => dsT_100 P W _) nn100 rfl rfl ?_
    refine r_callvV 22 (Mc := MTw_fail P W) (o := 100) (as := [aI 1, aI (G4 100 6)]) (st := []) dX15_openBlock_19 rfl (c_Tw_fail P W 1 (G4 100 6) G4) lkX15_390 (cmTw_fail P W) rfl rfl rfl (fun _ => dsT_100 P W _) nn100 rfl (Nat.le_of_ble_eq_true rfl) (Nat.le_of_ble_eq_true rfl) (fun _ => rfl) rfl (fun z11 G12 => ?_)
    exact r_return dX15_openBlock_22 rfl
theorem c_Tw_openBlock (P W : Int) (x1 : Int) (x2 : Int) (G : St) : MG (MTw_openBlock P W) [aR 100, aI x1, aI x2] G (Tw_openBlock x1 x2 G) := MG.of plX15 (Nat.le_of_ble_eq_true rfl) (s_Tw_openBlock P W x1 x2 G)
theorem s_Tw_ifStatement_b81 (P W : Int) (x1 : Int) (G : St) : SS (MTw_ifStatement P W) some 81 [(0, aR 100), (1, aI x1)] [] G (Tw_ifStatement_b81 P W x1 G) := by
  refine r_aload_n 82 0 dX15_ifStatement_81 rfl rfl rfl ?_
  refine r_get 85 (aI (G 100 7)) dX15_ifStatement_82 fkX15_323 (fun _ => dsT_100 P W _) nn100 rfl rfl ?_
  refine r_if_ne 102 88 dX15_ifStatement_85 rfl rfl ?_ ?_
  · exact r_return dX15_ifStatement_102 rfl
  · refine r_aload_n 89 0 dX15_ifStatement_88 rfl rfl rfl ?_
    refine r_iconst 90 1 dX15_ifStatement_89 rfl rfl ?_
    refine r_aload_n 91 0 dX15_ifStatement_90 rfl rfl rfl ?_
    refine r_bipush 93 35 dX15_ifStatement_91 rfl rfl ?_
    refine r_iconst 94 0 dX15_ifStatement_93 rfl rfl ?_
    refine r_iconst 95 0 dX15_ifStatement_94 rfl rfl ?_
    refine r_iload_n 96 1 dX15_ifStatement_95 rfl rfl rfl ?_
    refine r_callvI 99 (Mc := MTw_put P W) (o := 100) (as := [aI 35, aI 0, aI 0, aI x1]) (st := [aI 1, aR 100]) dX15_ifStatement_96 rfl (c_Tw_put P W 35 0 0 x1 G) lkX15_423 (cmTw_put P W) rfl rfl rfl (fun _ => dsT_100 P W _) nn100 rfl (Nat.le_of_ble_eq_true rfl) (Nat.le_of_ble_eq_true rfl) (fun _ => rfl) rfl (fun z8 G9 => ?_)
    refine r_callvV 102 (Mc := MTw_openBlock P W) (o := 100) (as := [aI 1, aI z8]) (st := []) dX15_ifStatement_99 rfl (c_Tw_openBlock P W 1 z8 G9) lkX15_504 (cmTw_openBlock P W) rfl rfl rfl (fun _ => dsT_100 P W _) nn100 rfl (Nat.le_of_ble_eq_true rfl) (Nat.le_of_ble_eq_true rfl) (fun _ => rfl) rfl (fun z10 G11 => ?_)
    exact r_return dX15_ifStatement_102 rfl
theorem s_Tw_ifStatement_b58 (P W : Int) (x1 : Int) (G : St) : SS (MTw_ifStatement P W) some 58 [(0, aR 100), (1, aI x1)] [] G (Tw_ifStatement_b58 P W x1 G) := by
  refine r_aload_n 59 0 dX15_ifStatement_58 rfl rfl rfl ?_
  refine r_get 62 (aI (G 100 7)) dX15_ifStatement_59 fkX15_323 (fun _ => dsT_100 P W _) nn100 rfl rfl ?_
  refine r_if_ne 81 65 dX15_ifStatement_62 rfl rfl ?_ ?_
  · exact s_Tw_ifStatement_b81 P W x1 G
  · refine r_aload_n 66 0 dX15_ifStatement_65 rfl rfl rfl ?_
    refine r_bipush 68 41 dX15_ifStatement_66 rfl rfl ?_
    refine r_callvV 71 (Mc := MTw_sign P W) (o := 100) (as := [aI 41]) (st := []) dX15_ifStatement_68 rfl (c_Tw_sign P W 41 G) lkX15_442 (cmTw_sign P W) rfl rfl rfl (fun _ => dsT_100 P W _) nn100 rfl (Nat.le_of_ble_eq_true rfl) (Nat.le_of_ble_eq_true rfl) (fun _ => rfl) rfl (fun z12 G13 => ?_)
    refine r_aload_n 72 0 dX15_ifStatement_71 rfl rfl rfl ?_
    refine r_dup 73 dX15_ifStatement_72 rfl rfl ?_
    refine r_get 76 (aI (G13 100 19)) dX15_ifStatement_73 fkX15_414 (fun _ => dsT_100 P W _) nn100 rfl rfl ?_
    refine r_iconst 77 1 dX15_ifStatement_76 rfl rfl ?_
    refine r_isub 78 dX15_ifStatement_77 rfl ?_
    refine r_putI 81 dX15_ifStatement_78 fkX15_414 (fun _ => dsT_100 P W _) nn100 rfl rfl ?_
    refine ss_tk (fun G14 => ?_)
    exact s_Tw_ifStatement_b81 P W x1 G14
theorem s_Tw_ifStatement_b47 (P W : Int) (x1 : Int) (G : St) : SS (MTw_ifStatement P W) some 47 [(0, aR 100), (1, aI x1)] [] G (Tw_ifStatement_b47 P W x1 G) := by
  refine r_aload_n 48 0 dX15_ifStatement_47 rfl rfl rfl ?_
  refine r_get 51 (aI (G 100 7)) dX15_ifStatement_48 fkX15_323 (fun _ => dsT_100 P W _) nn100 rfl rfl ?_
  refine r_if_ne 58 54 dX15_ifStatement_51 rfl rfl ?_ ?_
  · exact s_Tw_ifStatement_b58 P W x1 G
  · refine r_aload_n 55 0 dX15_ifStatement_54 rfl rfl rfl ?_
    refine r_callvV 58 (Mc := MTw_expression P W) (o := 100) (as := []) (st := []) dX15_ifStatement_55 rfl (c_Tw_expression P W G) lkX15_496 (cmTw_expression P W) rfl rfl rfl (fun _ => dsT_100 P W _) nn100 rfl (Nat.le_of_ble_eq_true rfl) (Nat.le_of_ble_eq_true rfl) (fun _ => rfl) rfl (fun z15 G16 => ?_)
    exact s_Tw_ifStatement_b58 P W x1 G16
theorem s_Tw_ifStatement (P W : Int) (x1 : Int) (G : St) : SS (MTw_ifStatement P W) some 0 [(0, aR 100), (1, aI x1)] [] G (Tw_ifStatement P W x1 G) := by
  refine r_aload_n 1 0 dX15_ifStatement_0 rfl rfl rfl ?_
  refine r_bipush 3 20 dX15_ifStatement_1 rfl rfl ?_
  refine r_iconst 4 0 dX15_ifStatement_3 rfl rfl ?_
  refine r_iconst 5 0 dX15_ifStatement_4 rfl rfl ?_
  refine r_iload_n 6 1 dX15_ifStatement_5 rfl rfl rfl ?_
  refine r_callvI 9 (Mc := MTw_put P W) (o := 100) (as := [aI 20, aI 0, aI 0, aI x1]) (st := []) dX15_ifStatement_6 rfl (c_Tw_put P W 20 0 0 x1 G) lkX15_423 (cmTw_put P W) rfl rfl rfl (fun _ => dsT_100 P W _) nn100 rfl (Nat.le_of_ble_eq_true rfl) (Nat.le_of_ble_eq_true rfl) (fun _ => rfl) rfl (fun z1 G2 => ?_)
  refine r_istore_n 10 [(2, aI z1), (0, aR 100), (1, aI x1)] dX15_ifStatement_9 rfl rfl rfl rfl ?_
  refine r_aload_n 11 1 dX15_ifStatement_10 rfl rfl rfl ?_
  refine r_dup 12 dX15_ifStatement_11 rfl rfl ?_
  refine r_get 15 (aI (G2 100 6)) dX15_ifStatement_12 fkX15_326 (fun _ => dsT_100 P W _) nn100 rfl rfl ?_
  refine r_iconst 16 2 dX15_ifStatement_15 rfl rfl ?_
  refine r_iadd 17 dX15_ifStatement_16 rfl ?_
  refine r_putI 20 dX15_ifStatement_17 fkX15_326 (fun _ => dsT_100 P W _) nn100 rfl rfl ?_
  refine ss_tk (fun G3 => ?_)
  refine r_aload_n 21 1 dX15_ifStatement_20 rfl rfl rfl ?_
  refine r_callvV 24 (Mc := MTw_gap P W) (o := 100) (as := []) (st := []) dX15_ifStatement_21 rfl (c_Tw_gap P W G3) lkX15_383 (cmTw_gap P W) rfl rfl rfl (fun _ => dsT_100 P W _) nn100 rfl (Nat.le_of_ble_eq_true rfl) (Nat.le_of_ble_eq_true rfl) (fun _ => rfl) rfl (fun z4 G5 => ?_)
  refine r_aload_n 25 1 dX15_ifStatement_24 rfl rfl rfl ?_
  refine r_get 28 (aI (G5 100 6)) dX15_ifStatement_25 fkX15_326 (fun _ => dsT_100 P W _) nn100 rfl rfl ?_
  refine r_istore_n 29 [(3, aI (G5 100 6)), (2, aI z1), (0, aR 100), (1, aI x1)] dX15_ifStatement_28 rfl rfl rfl rfl ?_
  refine r_aload_n 30 2 dX15_ifStatement_29 rfl rfl rfl ?_
  refine r_bipush 32 40 dX15_ifStatement_30 rfl rfl ?_
  refine r_callvV 35 (Mc := MTw_sign P W) (o := 100) (as := [aI 40]) (st := []) dX15_ifStatement_32 rfl (c_Tw_sign P W 40 G5) lkX15_442 (cmTw_sign P W) rfl rfl rfl (fun _ => dsT_100 P W _) nn100 rfl (Nat.le_of_ble_eq_true rfl) (Nat.le_of_ble_eq_true rfl) (fun _ => rfl) rfl (fun z6 G7 => ?_)
  refine r_aload_n 36 2 dX15_ifStatement_35 rfl rfl rfl ?_
  refine r_get 39 (aI (G7 100 7)) dX15_ifStatement_36 fkX15_323 (fun _ => dsT_100 P W _) nn100 rfl rfl ?_
  refine r_if_ne 47 42 dX15_ifStatement_39 rfl rfl ?_ ?_
  · refine r_to [2, 3] [(0, aR 100), (1, aI x1)] rfl ?_
    exact s_Tw_ifStatement_b47 P W x1 G7
  · refine r_aload_n 43 2 dX15_ifStatement_42 rfl rfl rfl ?_
    refine r_iload_n 44 0 dX15_ifStatement_43 rfl rfl rfl ?_
    refine r_callvV 47 (Mc := MTw_deeper P W) (o := 100) (as := [aI (G5 100 6)]) (st := []) dX15_ifStatement_44 rfl (c_Tw_deeper P W (G5 100 6) G7) lkX15_430 (cmTw_deeper P W) rfl rfl rfl (fun _ => dsT_100 P W _) nn100 rfl (Nat.le_of_ble_eq_true rfl) (Nat.le_of_ble_eq_true rfl) (fun _ => rfl) rfl (fun z17 G18 => ?_)
    refine r_to [2, 3] [(0, aR 100), (1, aI x1)] rfl ?_
    exact s_Tw_ifStatement_b47 P W x1 G18
theorem c_Tw_ifStatement (P W : Int) (x1 : Int) (G : St) : MG (MTw_ifStatement P W) [aR 100, aI x1] G (Tw_ifStatement P W x1 G) := MG.of plX15 (Nat.le_of_ble_eq_true rfl) (s_Tw_ifStatement P W x1 G)
theorem s_Tw_closeBlock_s220 (P W : Int) (X220 : St → Option (Int × St)) (hX220 : ∀ s, So (MTw_closeBlock P W) 220 [(0, aR 100)] [] s (X220 s)) (G : St) : SS (MTw_closeBlock P W) (lk X220 some) 220 [(0, aR 100)] [] G (Tw_closeBlock_s220 P W G) := by
  refine r_aload_n 221 0 dX15_closeBlock_220 rfl rfl rfl ?_
  refine r_get 224 (aI (G 100 26)) dX15_closeBlock_221 fkX15_501 (fun _ => dsT_100 P W _) nn100 rfl rfl ?_
  refine r_if_le 279 227 dX15_closeBlock_224 rfl rfl ?_ ?_
  · refine SS.ex ?_
    exact r_return dX15_closeBlock_279 rfl
  · refine r_aload_n 228 0 dX15_closeBlock_227 rfl rfl rfl ?_
    refine r_get 231 (aR 128) dX15_closeBlock_228 fkX15_50 (fun _ => dsT_100 P W _) nn100 rfl rfl ?_
    refine r_aload_n 232 0 dX15_closeBlock_231 rfl rfl rfl ?_
    refine r_get 235 (aI (G 100 26)) dX15_closeBlock_232 fkX15_501 (fun _ => dsT_100 P W _) nn100 rfl rfl ?_
    refine r_iconst 236 1 dX15_closeBlock_235 rfl rfl ?_
    refine r_isub 237 dX15_closeBlock_236 rfl ?_
    refine r_iald 238 dX15_closeBlock_237 (fun _ _ _ => dsT_128 P W _) (fun _ _ => nn128) rfl ?_
    refine r_bipush 240 12 dX15_closeBlock_238 rfl rfl ?_
    refine r_icmp_ne 279 243 dX15_closeBlock_240 rfl rfl ?_ ?_
    · refine SS.ex ?_
      exact r_return dX15_closeBlock_279 rfl
    · refine r_aload_n 244 0 dX15_closeBlock_243 rfl rfl rfl ?_
      refine r_dup 245 dX15_closeBlock_244 rfl rfl ?_
      refine r_get 248 (aI (G 100 26)) dX15_closeBlock_245 fkX15_501 (fun _ => dsT_100 P W _) nn100 rfl rfl ?_
      refine r_iconst 249 1 dX15_closeBlock_248 rfl rfl ?_
      refine r_isub 250 dX15_closeBlock_249 rfl ?_
      refine r_putI 253 dX15_closeBlock_250 fkX15_501 (fun _ => dsT_100 P W _) nn100 rfl rfl ?_
      refine ss_tk (fun G6 => ?_)
      refine r_aload_n 254 0 dX15_closeBlock_253 rfl rfl rfl ?_
      refine r_dup 255 dX15_closeBlock_254 rfl rfl ?_
      refine r_get 258 (aI (G6 100 19)) dX15_closeBlock_255 fkX15_414 (fun _ => dsT_100 P W _) nn100 rfl rfl ?_
      refine r_iconst 259 1 dX15_closeBlock_258 rfl rfl ?_
      refine r_isub 260 dX15_closeBlock_259 rfl ?_
      refine r_putI 263 dX15_closeBlock_260 fkX15_414 (fun _ => dsT_100 P W _) nn100 rfl rfl ?_
      refine ss_tk (fun G7 => ?_)
      refine r_aload_n 264 0 dX15_closeBlock_263 rfl rfl rfl ?_
      refine r_aload_n 265 0 dX15_closeBlock_264 rfl rfl rfl ?_
      refine r_get 268 (aR 129) dX15_closeBlock_265 fkX15_53 (fun _ => dsT_100 P W _) nn100 rfl rfl ?_
      refine r_aload_n 269 0 dX15_closeBlock_268 rfl rfl rfl ?_
      refine r_get 272 (aI (G7 100 26)) dX15_closeBlock_269 fkX15_501 (fun _ => dsT_100 P W _) nn100 rfl rfl ?_
      refine r_iald 273 dX15_closeBlock_272 (fun _ _ _ => dsT_129 P W _) (fun _ _ => nn129) rfl ?_
      refine r_callvV 276 (Mc := MTw_endIf P W) (o := 100) (as := [aI (G7 129 (G7 100 26))]) (st := []) dX15_closeBlock_273 rfl (c_Tw_endIf P W (G7 129 (G7 100 26)) G7) lkX15_510 (cmTw_endIf P W) rfl rfl rfl (fun _ => dsT_100 P W _) nn100 rfl (Nat.le_of_ble_eq_true rfl) (Nat.le_of_ble_eq_true rfl) (fun _ => rfl) rfl (fun z8 G9 => ?_)
      refine r_goto 220 dX15_closeBlock_276 rfl ?_
      exact SS.back (hX220 (G9))
theorem sl_Tw_closeBlock_220 (P W : Int) (G : St) : SS (MTw_closeBlock P W) some 220 [(0, aR 100)] [] G (Tw_closeBlock_l220 P W G) := by
  exact SS.loop (σ := St) (fun s => [(0, aR 100)]) (fun s => s) (fun s => Tw_closeBlock_s220 P W s) (fun X220 hX220 s => s_Tw_closeBlock_s220 P W   X220 hX220 s) (G)
theorem s_Tw_closeBlock_b215 (P W : Int) (x2 : Int) (G : St) : SS (MTw_closeBlock P W) some 215 [(0, aR 100), (2, aI x2)] [] G (Tw_closeBlock_b215 P W x2 G) := by
  refine r_aload_n 216 0 dX15_closeBlock_215 rfl rfl rfl ?_
  refine r_iload_n 217 1 dX15_closeBlock_216 rfl rfl rfl ?_
  refine r_callvV 220 (Mc := MTw_endIf P W) (o := 100) (as := [aI x2]) (st := []) dX15_closeBlock_217 rfl (c_Tw_endIf P W x2 G) lkX15_510 (cmTw_endIf P W) rfl rfl rfl (fun _ => dsT_100 P W _) nn100 rfl (Nat.le_of_ble_eq_true rfl) (Nat.le_of_ble_eq_true rfl) (fun _ => rfl) rfl (fun z4 G5 => ?_)
  refine r_to [0] [(0, aR 100)] rfl ?_
  exact sl_Tw_closeBlock_220 P W G5
theorem s_Tw_closeBlock (P W : Int) (G : St) : SS (MTw_closeBlock P W) some 0 [(0, aR 100)] [] G (Tw_closeBlock P W G) := by
  refine r_aload_n 1 0 dX15_closeBlock_0 rfl rfl rfl ?_
  refine r_dup 2 dX15_closeBlock_1 rfl rfl ?_
  refine r_get 5 (aI (G 100 6)) dX15_closeBlock_2 fkX15_326 (fun _ => dsT_100 P W _) nn100 rfl rfl ?_
  refine r_iconst 6 1 dX15_closeBlock_5 rfl rfl ?_
  refine r_iadd 7 dX15_closeBlock_6 rfl ?_
  refine r_putI 10 dX15_closeBlock_7 fkX15_326 (fun _ => dsT_100 P W _) nn100 rfl rfl ?_
  refine ss_tk (fun G1 => ?_)
  refine r_aload_n 11 0 dX15_closeBlock_10 rfl rfl rfl ?_
  refine r_dup 12 dX15_closeBlock_11 rfl rfl ?_
  refine r_get 15 (aI (G1 100 19)) dX15_closeBlock_12 fkX15_414 (fun _ => dsT_100 P W _) nn100 rfl rfl ?_
  refine r_iconst 16 1 dX15_closeBlock_15 rfl rfl ?_
  refine r_isub 17 dX15_closeBlock_16 rfl ?_
  refine r_putI 20 dX15_closeBlock_17 fkX15_414 (fun _ => dsT_100 P W _) nn100 rfl rfl ?_
  refine ss_tk (fun G2 => ?_)
  refine r_aload_n 21 0 dX15_closeBlock_20 rfl rfl rfl ?_
  refine r_dup 22 dX15_closeBlock_21 rfl rfl ?_
  refine r_get 25 (aI (G2 100 26)) dX15_closeBlock_22 fkX15_501 (fun _ => dsT_100 P W _) nn100 rfl rfl ?_
  refine r_iconst 26 1 dX15_closeBlock_25 rfl rfl ?_
  refine r_isub 27 dX15_closeBlock_26 rfl ?_
  refine r_putI 30 dX15_closeBlock_27 fkX15_501 (fun _ => dsT_100 P W _) nn100 rfl rfl ?_
  refine ss_tk (fun G3 => ?_)
  refine r_aload_n 31 0 dX15_closeBlock_30 rfl rfl rfl ?_
  refine r_get 34 (aR 128) dX15_closeBlock_31 fkX15_50 (fun _ => dsT_100 P W _) nn100 rfl rfl ?_
  refine r_aload_n 35 0 dX15_closeBlock_34 rfl rfl rfl ?_
  refine r_get 38 (aI (G3 100 26)) dX15_closeBlock_35 fkX15_501 (fun _ => dsT_100 P W _) nn100 rfl rfl ?_
  refine r_iald 39 dX15_closeBlock_38 (fun _ _ _ => dsT_128 P W _) (fun _ _ => nn128) rfl ?_
  refine r_istore_n 40 [(1, aI (G3 128 (G3 100 26))), (0, aR 100)] dX15_closeBlock_39 rfl rfl rfl rfl ?_
  refine r_aload_n 41 1 dX15_closeBlock_40 rfl rfl rfl ?_
  refine r_get 44 (aR 129) dX15_closeBlock_41 fkX15_53 (fun _ => dsT_100 P W _) nn100 rfl rfl ?_
  refine r_aload_n 45 1 dX15_closeBlock_44 rfl rfl rfl ?_
  refine r_get 48 (aI (G3 100 26)) dX15_closeBlock_45 fkX15_501 (fun _ => dsT_100 P W _) nn100 rfl rfl ?_
  refine r_iald 49 dX15_closeBlock_48 (fun _ _ _ => dsT_129 P W _) (fun _ _ => nn129) rfl ?_
  refine r_istore_n 50 [(2, aI (G3 129 (G3 100 26))), (1, aI (G3 128 (G3 100 26))), (0, aR 100)] dX15_closeBlock_49 rfl rfl rfl rfl ?_
  refine r_iload_n 51 1 dX15_closeBlock_50 rfl rfl rfl ?_
  refine r_iconst 52 3 dX15_closeBlock_51 rfl rfl ?_
  refine r_icmp_ne 93 55 dX15_closeBlock_52 rfl rfl ?_ ?_
  · refine r_iload_n 94 1 dX15_closeBlock_93 rfl rfl rfl ?_
    refine r_iconst 95 1 dX15_closeBlock_94 rfl rfl ?_
    refine r_icmp_ne 215 98 dX15_closeBlock_95 rfl rfl ?_ ?_
    · refine r_to [2, 0] [(0, aR 100), (2, aI (G3 129 (G3 100 26)))] rfl ?_
      exact s_Tw_closeBlock_b215 P W (G3 129 (G3 100 26)) G3
    · refine r_aload_n 99 2 dX15_closeBlock_98 rfl rfl rfl ?_
      refine r_callvV 102 (Mc := MTw_gap P W) (o := 100) (as := []) (st := []) dX15_closeBlock_99 rfl (c_Tw_gap P W G3) lkX15_383 (cmTw_gap P W) rfl rfl rfl (fun _ => dsT_100 P W _) nn100 rfl (Nat.le_of_ble_eq_true rfl) (Nat.le_of_ble_eq_true rfl) (fun _ => rfl) rfl (fun z10 G11 => ?_)
      refine r_aload_n 103 2 dX15_closeBlock_102 rfl rfl rfl ?_
      refine r_ldcsw 106 7 dX15_closeBlock_103 q2335 rfl rfl rfl ?_
      refine r_callvI 109 (Mc := MTw_isWord P W) (o := 100) (as := [aR 77]) (st := []) dX15_closeBlock_106 rfl (c_Tw_isWord P W 77 G11) lkX15_355 (cmTw_isWord P W) rfl rfl rfl (fun _ => dsT_100 P W _) nn100 rfl (Nat.le_of_ble_eq_true rfl) (Nat.le_of_ble_eq_true rfl) (fun _ => rfl) rfl (fun z12 G13 => ?_)
      refine r_if_eq 215 112 dX15_closeBlock_109 rfl rfl ?_ ?_
      · refine r_to [2, 0] [(0, aR 100), (2, aI (G3 129 (G3 100 26)))] rfl ?_
        exact s_Tw_closeBlock_b215 P W (G3 129 (G3 100 26)) G13
      · refine r_aload_n 113 2 dX15_closeBlock_112 rfl rfl rfl ?_
        refine r_dup 114 dX15_closeBlock_113 rfl rfl ?_
        refine r_get 117 (aI (G13 100 6)) dX15_closeBlock_114 fkX15_326 (fun _ => dsT_100 P W _) nn100 rfl rfl ?_
        refine r_iconst 118 4 dX15_closeBlock_117 rfl rfl ?_
        refine r_iadd 119 dX15_closeBlock_118 rfl ?_
        refine r_putI 122 dX15_closeBlock_119 fkX15_326 (fun _ => dsT_100 P W _) nn100 rfl rfl ?_
        refine ss_tk (fun G14 => ?_)
        refine r_aload_n 123 2 dX15_closeBlock_122 rfl rfl rfl ?_
        refine r_bipush 125 36 dX15_closeBlock_123 rfl rfl ?_
        refine r_iload_n 126 0 dX15_closeBlock_125 rfl rfl rfl ?_
        refine r_iconst 127 0 dX15_closeBlock_126 rfl rfl ?_
        refine r_aload_n 128 2 dX15_closeBlock_127 rfl rfl rfl ?_
        refine r_get 131 (aR 118) dX15_closeBlock_128 fkX15_31 (fun _ => dsT_100 P W _) nn100 rfl rfl ?_
        refine r_iload_n 132 0 dX15_closeBlock_131 rfl rfl rfl ?_
        refine r_iald 133 dX15_closeBlock_132 (fun _ _ _ => dsT_118 P W _) (fun _ _ => nn118) rfl ?_
        refine r_callvI 136 (Mc := MTw_put P W) (o := 100) (as := [aI 36, aI (G3 129 (G3 100 26)), aI 0, aI (G14 118 (G3 129 (G3 100 26)))]) (st := []) dX15_closeBlock_133 rfl (c_Tw_put P W 36 (G3 129 (G3 100 26)) 0 (G14 118 (G3 129 (G3 100 26))) G14) lkX15_423 (cmTw_put P W) rfl rfl rfl (fun _ => dsT_100 P W _) nn100 rfl (Nat.le_of_ble_eq_true rfl) (Nat.le_of_ble_eq_true rfl) (fun _ => rfl) rfl (fun z15 G16 => ?_)
        refine r_istore_n 137 [(3, aI z15), (2, aI (G3 129 (G3 100 26))), (1, aI (G3 128 (G3 100 26))), (0, aR 100)] dX15_closeBlock_136 rfl rfl rfl rfl ?_
        refine r_aload_n 138 3 dX15_closeBlock_137 rfl rfl rfl ?_
        refine r_get 141 (aR 117) dX15_closeBlock_138 fkX15_28 (fun _ => dsT_100 P W _) nn100 rfl rfl ?_
        refine r_iload_n 142 1 dX15_closeBlock_141 rfl rfl rfl ?_
        refine r_iload_n 143 0 dX15_closeBlock_142 rfl rfl rfl ?_
        refine r_iast 144 dX15_closeBlock_143 (fun _ _ _ => dsT_117 P W _) (fun _ _ => nn117) rfl ?_
        refine ss_tk (fun G17 => ?_)
        refine r_aload_n 145 3 dX15_closeBlock_144 rfl rfl rfl ?_
        refine r_callvV 148 (Mc := MTw_gap P W) (o := 100) (as := []) (st := []) dX15_closeBlock_145 rfl (c_Tw_gap P W G17) lkX15_383 (cmTw_gap P W) rfl rfl rfl (fun _ => dsT_100 P W _) nn100 rfl (Nat.le_of_ble_eq_true rfl) (Nat.le_of_ble_eq_true rfl) (fun _ => rfl) rfl (fun z18 G19 => ?_)
        refine r_aload_n 149 3 dX15_closeBlock_148 rfl rfl rfl ?_
        refine r_ldcsw 152 6 dX15_closeBlock_149 q2352 rfl rfl rfl ?_
        refine r_callvI 155 (Mc := MTw_isWord P W) (o := 100) (as := [aR 76]) (st := []) dX15_closeBlock_152 rfl (c_Tw_isWord P W 76 G19) lkX15_355 (cmTw_isWord P W) rfl rfl rfl (fun _ => dsT_100 P W _) nn100 rfl (Nat.le_of_ble_eq_true rfl) (Nat.le_of_ble_eq_true rfl) (fun _ => rfl) rfl (fun z20 G21 => ?_)
        refine r_if_eq 208 158 dX15_closeBlock_155 rfl rfl ?_ ?_
        · refine r_aload_n 209 3 dX15_closeBlock_208 rfl rfl rfl ?_
          refine r_iconst 210 2 dX15_closeBlock_209 rfl rfl ?_
          refine r_iload_n 211 1 dX15_closeBlock_210 rfl rfl rfl ?_
          refine r_callvV 214 (Mc := MTw_openBlock P W) (o := 100) (as := [aI 2, aI (G3 129 (G3 100 26))]) (st := []) dX15_closeBlock_211 rfl (c_Tw_openBlock P W 2 (G3 129 (G3 100 26)) G21) lkX15_504 (cmTw_openBlock P W) rfl rfl rfl (fun _ => dsT_100 P W _) nn100 rfl (Nat.le_of_ble_eq_true rfl) (Nat.le_of_ble_eq_true rfl) (fun _ => rfl) rfl (fun z22 G23 => ?_)
          exact r_return dX15_closeBlock_214 rfl
        · refine r_aload_n 159 3 dX15_closeBlock_158 rfl rfl rfl ?_
          refine r_aload_n 160 3 dX15_closeBlock_159 rfl rfl rfl ?_
          refine r_get 163 (aI (G21 100 6)) dX15_closeBlock_160 fkX15_326 (fun _ => dsT_100 P W _) nn100 rfl rfl ?_
          refine r_callvV 166 (Mc := MTw_deeper P W) (o := 100) (as := [aI (G21 100 6)]) (st := []) dX15_closeBlock_163 rfl (c_Tw_deeper P W (G21 100 6) G21) lkX15_430 (cmTw_deeper P W) rfl rfl rfl (fun _ => dsT_100 P W _) nn100 rfl (Nat.le_of_ble_eq_true rfl) (Nat.le_of_ble_eq_true rfl) (fun _ => rfl) rfl (fun z24 G25 => ?_)
          refine r_aload_n 167 3 dX15_closeBlock_166 rfl rfl rfl ?_
          refine r_get 170 (aR 128) dX15_closeBlock_167 fkX15_50 (fun _ => dsT_100 P W _) nn100 rfl rfl ?_
          refine r_aload_n 171 3 dX15_closeBlock_170 rfl rfl rfl ?_
          refine r_get 174 (aI (G25 100 26)) dX15_closeBlock_171 fkX15_501 (fun _ => dsT_100 P W _) nn100 rfl rfl ?_
          refine r_bipush 176 12 dX15_closeBlock_174 rfl rfl ?_
          refine r_iast 177 dX15_closeBlock_176 (fun _ _ _ => dsT_128 P W _) (fun _ _ => nn128) rfl ?_
          refine ss_tk (fun G26 => ?_)
          refine r_aload_n 178 3 dX15_closeBlock_177 rfl rfl rfl ?_
          refine r_get 181 (aR 129) dX15_closeBlock_178 fkX15_53 (fun _ => dsT_100 P W _) nn100 rfl rfl ?_
          refine r_aload_n 182 3 dX15_closeBlock_181 rfl rfl rfl ?_
          refine r_get 185 (aI (G26 100 26)) dX15_closeBlock_182 fkX15_501 (fun _ => dsT_100 P W _) nn100 rfl rfl ?_
          refine r_iload_n 186 1 dX15_closeBlock_185 rfl rfl rfl ?_
          refine r_iast 187 dX15_closeBlock_186 (fun _ _ _ => dsT_129 P W _) (fun _ _ => nn129) rfl ?_
          refine ss_tk (fun G27 => ?_)
          refine r_aload_n 188 3 dX15_closeBlock_187 rfl rfl rfl ?_
          refine r_dup 189 dX15_closeBlock_188 rfl rfl ?_
          refine r_get 192 (aI (G27 100 26)) dX15_closeBlock_189 fkX15_501 (fun _ => dsT_100 P W _) nn100 rfl rfl ?_
          refine r_iconst 193 1 dX15_closeBlock_192 rfl rfl ?_
          refine r_iadd 194 dX15_closeBlock_193 rfl ?_
          refine r_putI 197 dX15_closeBlock_194 fkX15_501 (fun _ => dsT_100 P W _) nn100 rfl rfl ?_
          refine ss_tk (fun G28 => ?_)
          refine r_aload_n 198 3 dX15_closeBlock_197 rfl rfl rfl ?_
          refine r_aload_n 199 3 dX15_closeBlock_198 rfl rfl rfl ?_
          refine r_get 202 (aI (G28 100 6)) dX15_closeBlock_199 fkX15_326 (fun _ => dsT_100 P W _) nn100 rfl rfl ?_
          refine r_callvV 205 (Mc := MTw_ifStatement P W) (o := 100) (as := [aI (G28 100 6)]) (st := []) dX15_closeBlock_202 rfl (c_Tw_ifStatement P W (G28 100 6) G28) lkX15_507 (cmTw_ifStatement P W) rfl rfl rfl (fun _ => dsT_100 P W _) nn100 rfl (Nat.le_of_ble_eq_true rfl) (Nat.le_of_ble_eq_true rfl) (fun _ => rfl) rfl (fun z29 G30 => ?_)
          refine r_goto 214 dX15_closeBlock_205 rfl ?_
          exact r_return dX15_closeBlock_214 rfl
  · refine r_aload_n 56 2 dX15_closeBlock_55 rfl rfl rfl ?_
    refine r_bipush 58 40 dX15_closeBlock_56 rfl rfl ?_
    refine r_iload_n 59 0 dX15_closeBlock_58 rfl rfl rfl ?_
    refine r_iconst 60 0 dX15_closeBlock_59 rfl rfl ?_
    refine r_aload_n 61 2 dX15_closeBlock_60 rfl rfl rfl ?_
    refine r_get 64 (aR 118) dX15_closeBlock_61 fkX15_31 (fun _ => dsT_100 P W _) nn100 rfl rfl ?_
    refine r_iload_n 65 0 dX15_closeBlock_64 rfl rfl rfl ?_
    refine r_iald 66 dX15_closeBlock_65 (fun _ _ _ => dsT_118 P W _) (fun _ _ => nn118) rfl ?_
    refine r_callvI 69 (Mc := MTw_put P W) (o := 100) (as := [aI 40, aI (G3 129 (G3 100 26)), aI 0, aI (G3 118 (G3 129 (G3 100 26)))]) (st := []) dX15_closeBlock_66 rfl (c_Tw_put P W 40 (G3 129 (G3 100 26)) 0 (G3 118 (G3 129 (G3 100 26))) G3) lkX15_423 (cmTw_put P W) rfl rfl rfl (fun _ => dsT_100 P W _) nn100 rfl (Nat.le_of_ble_eq_true rfl) (Nat.le_of_ble_eq_true rfl) (fun _ => rfl) rfl (fun z31 G32 => ?_)
    refine r_istore_n 70 [(3, aI z31), (2, aI (G3 129 (G3 100 26))), (1, aI (G3 128 (G3 100 26))), (0, aR 100)] dX15_closeBlock_69 rfl rfl rfl rfl ?_
    refine r_aload_n 71 3 dX15_closeBlock_70 rfl rfl rfl ?_
    refine r_get 74 (aR 117) dX15_closeBlock_71 fkX15_28 (fun _ => dsT_100 P W _) nn100 rfl rfl ?_
    refine r_iload_n 75 1 dX15_closeBlock_74 rfl rfl rfl ?_
    refine r_iload_n 76 0 dX15_closeBlock_75 rfl rfl rfl ?_
    refine r_iast 77 dX15_closeBlock_76 (fun _ _ _ => dsT_117 P W _) (fun _ _ => nn117) rfl ?_
    refine ss_tk (fun G33 => ?_)
    refine r_aload_n 78 3 dX15_closeBlock_77 rfl rfl rfl ?_
    refine r_bipush 80 21 dX15_closeBlock_78 rfl rfl ?_
    refine r_iconst 81 0 dX15_closeBlock_80 rfl rfl ?_
    refine r_iconst 82 0 dX15_closeBlock_81 rfl rfl ?_
    refine r_aload_n 83 3 dX15_closeBlock_82 rfl rfl rfl ?_
    refine r_get 86 (aR 118) dX15_closeBlock_83 fkX15_31 (fun _ => dsT_100 P W _) nn100 rfl rfl ?_
    refine r_iload_n 87 1 dX15_closeBlock_86 rfl rfl rfl ?_
    refine r_iald 88 dX15_closeBlock_87 (fun _ _ _ => dsT_118 P W _) (fun _ _ => nn118) rfl ?_
    refine r_callvI 91 (Mc := MTw_put P W) (o := 100) (as := [aI 21, aI 0, aI 0, aI (G33 118 (G3 129 (G3 100 26)))]) (st := []) dX15_closeBlock_88 rfl (c_Tw_put P W 21 0 0 (G33 118 (G3 129 (G3 100 26))) G33) lkX15_423 (cmTw_put P W) rfl rfl rfl (fun _ => dsT_100 P W _) nn100 rfl (Nat.le_of_ble_eq_true rfl) (Nat.le_of_ble_eq_true rfl) (fun _ => rfl) rfl (fun z34 G35 => ?_)
    refine r_istore_n 92 [(3, aI z34), (2, aI (G3 129 (G3 100 26))), (1, aI (G3 128 (G3 100 26))), (0, aR 100)] dX15_closeBlock_91 rfl rfl rfl rfl ?_
    exact r_return dX15_closeBlock_92 rfl
theorem c_Tw_closeBlock (P W : Int) (G : St) : MG (MTw_closeBlock P W) [aR 100] G (Tw_closeBlock P W G) := MG.of plX15 (Nat.le_of_ble_eq_true rfl) (s_Tw_closeBlock P W G)
theorem s_Tw_sortWord_b53 (P W : Int) (G : St) : SS (MTw_sortWord P W) some 53 [(0, aR 100)] [] G (Tw_sortWord_b53 G) := by
  refine r_aload_n 54 0 dX15_sortWord_53 rfl rfl rfl ?_
  refine r_dup 55 dX15_sortWord_54 rfl rfl ?_
  refine r_get 58 (aI (G 100 6)) dX15_sortWord_55 fkX15_326 (fun _ => dsT_100 P W _) nn100 rfl rfl ?_
  refine r_iconst 59 3 dX15_sortWord_58 rfl rfl ?_
  refine r_iadd 60 dX15_sortWord_59 rfl ?_
  refine r_putI 63 dX15_sortWord_60 fkX15_326 (fun _ => dsT_100 P W _) nn100 rfl rfl ?_
  refine ss_tk (fun G8 => ?_)
  exact r_return dX15_sortWord_63 rfl
theorem s_Tw_sortWord_b20 (P W : Int) (s0 : Int) (G : St) : SS (MTw_sortWord P W) some 20 [(0, aR 100)] [aI s0, aR 100] G (Tw_sortWord_b20 s0 G) := by
  refine r_putI 23 dX15_sortWord_20 fkX15_470 (fun _ => dsT_100 P W _) nn100 rfl rfl ?_
  refine ss_tk (fun G5 => ?_)
  refine r_aload_n 24 0 dX15_sortWord_23 rfl rfl rfl ?_
  refine r_ldcsw 27 9 dX15_sortWord_24 q2386 rfl rfl rfl ?_
  refine r_callvI 30 (Mc := MTw_isWord P W) (o := 100) (as := [aR 79]) (st := []) dX15_sortWord_27 rfl (c_Tw_isWord P W 79 G5) lkX15_355 (cmTw_isWord P W) rfl rfl rfl (fun _ => dsT_100 P W _) nn100 rfl (Nat.le_of_ble_eq_true rfl) (Nat.le_of_ble_eq_true rfl) (fun _ => rfl) rfl (fun z6 G7 => ?_)
  refine r_if_ne 53 33 dX15_sortWord_30 rfl rfl ?_ ?_
  · exact s_Tw_sortWord_b53 P W G7
  · refine r_aload_n 34 0 dX15_sortWord_33 rfl rfl rfl ?_
    refine r_ldcsw 37 10 dX15_sortWord_34 q2387 rfl rfl rfl ?_
    refine r_callvI 40 (Mc := MTw_isWord P W) (o := 100) (as := [aR 80]) (st := []) dX15_sortWord_37 rfl (c_Tw_isWord P W 80 G7) lkX15_355 (cmTw_isWord P W) rfl rfl rfl (fun _ => dsT_100 P W _) nn100 rfl (Nat.le_of_ble_eq_true rfl) (Nat.le_of_ble_eq_true rfl) (fun _ => rfl) rfl (fun z9 G10 => ?_)
    refine r_if_ne 53 43 dX15_sortWord_40 rfl rfl ?_ ?_
    · exact s_Tw_sortWord_b53 P W G10
    · refine r_aload_n 44 0 dX15_sortWord_43 rfl rfl rfl ?_
      refine r_iconst 45 1 dX15_sortWord_44 rfl rfl ?_
      refine r_aload_n 46 0 dX15_sortWord_45 rfl rfl rfl ?_
      refine r_get 49 (aI (G10 100 6)) dX15_sortWord_46 fkX15_326 (fun _ => dsT_100 P W _) nn100 rfl rfl ?_
      refine r_callvV 52 (Mc := MTw_fail P W) (o := 100) (as := [aI 1, aI (G10 100 6)]) (st := []) dX15_sortWord_49 rfl (c_Tw_fail P W 1 (G10 100 6) G10) lkX15_390 (cmTw_fail P W) rfl rfl rfl (fun _ => dsT_100 P W _) nn100 rfl (Nat.le_of_ble_eq_true rfl) (Nat.le_of_ble_eq_true rfl) (fun _ => rfl) rfl (fun z11 G12 => ?_)
      exact r_return dX15_sortWord_52 rfl
theorem s_Tw_sortWord (P W : Int) (G : St) : SS (MTw_sortWord P W) some 0 [(0, aR 100)] [] G (Tw_sortWord G) := by
  refine r_aload_n 1 0 dX15_sortWord_0 rfl rfl rfl ?_
  refine r_callvV 4 (Mc := MTw_gap P W) (o := 100) (as := []) (st := []) dX15_sortWord_1 rfl (c_Tw_gap P W G) lkX15_383 (cmTw_gap P W) rfl rfl rfl (fun _ => dsT_100 P W _) nn100 rfl (Nat.le_of_ble_eq_true rfl) (Nat.le_of_ble_eq_true rfl) (fun _ => rfl) rfl (fun z1 G2 => ?_)
  refine r_aload_n 5 0 dX15_sortWord_4 rfl rfl rfl ?_
  refine r_aload_n 6 0 dX15_sortWord_5 rfl rfl rfl ?_
  refine r_ldcsw 9 10 dX15_sortWord_6 q2387 rfl rfl rfl ?_
  refine r_callvI 12 (Mc := MTw_isWord P W) (o := 100) (as := [aR 80]) (st := [aR 100]) dX15_sortWord_9 rfl (c_Tw_isWord P W 80 G2) lkX15_355 (cmTw_isWord P W) rfl rfl rfl (fun _ => dsT_100 P W _) nn100 rfl (Nat.le_of_ble_eq_true rfl) (Nat.le_of_ble_eq_true rfl) (fun _ => rfl) rfl (fun z3 G4 => ?_)
  refine SS.phi (fun VV_ => Tw_sortWord_b20 VV_ G4) ?_
  refine r_if_eq 19 15 dX15_sortWord_12 rfl rfl ?_ ?_
  · refine r_iconst 20 0 dX15_sortWord_19 rfl rfl ?_
    exact s_Tw_sortWord_b20 P W 0 G4
  · refine r_iconst 16 1 dX15_sortWord_15 rfl rfl ?_
    refine r_goto 20 dX15_sortWord_16 rfl ?_
    exact s_Tw_sortWord_b20 P W 1 G4
theorem c_Tw_sortWord (P W : Int) (G : St) : MG (MTw_sortWord P W) [aR 100] G (Tw_sortWord G) := MG.of plX15 (Nat.le_of_ble_eq_true rfl) (s_Tw_sortWord P W G)
theorem s_Tw_defItem_b252 (P W : Int) (x1 : Int) (x2 : Int) (x3 : Int) (x4 : Int) (x6 : Int) (G : St) : SS (MTw_defItem P W) some 252 [(0, aR 100), (1, aI x1), (2, aI x2), (3, aI x3), (4, aI x4), (6, aI x6)] [] G (Tw_defItem_b252 P W x1 x2 x3 x4 x6 G) := by
  refine r_aload_n 253 0 dX15_defItem_252 rfl rfl rfl ?_
  refine r_get 256 (aI (G 100 7)) dX15_defItem_253 fkX15_323 (fun _ => dsT_100 P W _) nn100 rfl rfl ?_
  refine r_if_le 260 259 dX15_defItem_256 rfl rfl ?_ ?_
  · refine r_aload_n 261 0 dX15_defItem_260 rfl rfl rfl ?_
    refine r_bipush 263 28 dX15_defItem_261 rfl rfl ?_
    refine r_iconst 264 0 dX15_defItem_263 rfl rfl ?_
    refine r_iconst 265 0 dX15_defItem_264 rfl rfl ?_
    refine r_iload_n 266 1 dX15_defItem_265 rfl rfl rfl ?_
    refine r_callvI 269 (Mc := MTw_put P W) (o := 100) (as := [aI 28, aI 0, aI 0, aI x1]) (st := []) dX15_defItem_266 rfl (c_Tw_put P W 28 0 0 x1 G) lkX15_423 (cmTw_put P W) rfl rfl rfl (fun _ => dsT_100 P W _) nn100 rfl (Nat.le_of_ble_eq_true rfl) (Nat.le_of_ble_eq_true rfl) (fun _ => rfl) rfl (fun z12 G13 => ?_)
    refine r_istore 271 [(7, aI z12), (0, aR 100), (1, aI x1), (2, aI x2), (3, aI x3), (4, aI x4), (6, aI x6)] dX15_defItem_269 rfl rfl rfl ?_
    refine r_aload_n 272 1 dX15_defItem_271 rfl rfl rfl ?_
    refine r_callvV 275 (Mc := MTw_expression P W) (o := 100) (as := []) (st := []) dX15_defItem_272 rfl (c_Tw_expression P W G13) lkX15_496 (cmTw_expression P W) rfl rfl rfl (fun _ => dsT_100 P W _) nn100 rfl (Nat.le_of_ble_eq_true rfl) (Nat.le_of_ble_eq_true rfl) (fun _ => rfl) rfl (fun z14 G15 => ?_)
    refine r_aload_n 276 1 dX15_defItem_275 rfl rfl rfl ?_
    refine r_get 279 (aI (G15 100 7)) dX15_defItem_276 fkX15_323 (fun _ => dsT_100 P W _) nn100 rfl rfl ?_
    refine r_if_le 283 282 dX15_defItem_279 rfl rfl ?_ ?_
    · refine r_aload_n 284 1 dX15_defItem_283 rfl rfl rfl ?_
      refine r_bipush 286 29 dX15_defItem_284 rfl rfl ?_
      refine r_iload_n 287 4 dX15_defItem_286 rfl rfl rfl ?_
      refine r_iload 289 6 dX15_defItem_287 rfl rfl ?_
      refine r_iload_n 290 3 dX15_defItem_289 rfl rfl rfl ?_
      refine r_callvI 293 (Mc := MTw_put P W) (o := 100) (as := [aI 29, aI x3, aI x6, aI x2]) (st := []) dX15_defItem_290 rfl (c_Tw_put P W 29 x3 x6 x2 G15) lkX15_423 (cmTw_put P W) rfl rfl rfl (fun _ => dsT_100 P W _) nn100 rfl (Nat.le_of_ble_eq_true rfl) (Nat.le_of_ble_eq_true rfl) (fun _ => rfl) rfl (fun z16 G17 => ?_)
      refine r_istore 295 [(7, aI z16), (0, aR 100), (1, aI x1), (2, aI x2), (3, aI x3), (4, aI x4), (6, aI x6)] dX15_defItem_293 rfl rfl rfl ?_
      refine r_aload_n 296 1 dX15_defItem_295 rfl rfl rfl ?_
      refine r_get 299 (aR 119) dX15_defItem_296 fkX15_34 (fun _ => dsT_100 P W _) nn100 rfl rfl ?_
      refine r_iload 301 5 dX15_defItem_299 rfl rfl ?_
      refine r_iload 303 0 dX15_defItem_301 rfl rfl ?_
      refine r_i2l 304 dX15_defItem_303 rfl ?_
      refine r_last 305 dX15_defItem_304 (fun _ _ _ => dsT_119 P W _) (fun _ _ => nn119) rfl ?_
      refine ss_tk (fun G18 => ?_)
      refine r_aload_n 306 1 dX15_defItem_305 rfl rfl rfl ?_
      refine r_bipush 308 59 dX15_defItem_306 rfl rfl ?_
      refine r_callvV 311 (Mc := MTw_sign P W) (o := 100) (as := [aI 59]) (st := []) dX15_defItem_308 rfl (c_Tw_sign P W 59 G18) lkX15_442 (cmTw_sign P W) rfl rfl rfl (fun _ => dsT_100 P W _) nn100 rfl (Nat.le_of_ble_eq_true rfl) (Nat.le_of_ble_eq_true rfl) (fun _ => rfl) rfl (fun z19 G20 => ?_)
      exact r_return dX15_defItem_311 rfl
    · exact r_return dX15_defItem_282 rfl
  · exact r_return dX15_defItem_259 rfl
theorem s_Tw_defItem_b233 (P W : Int) (x1 : Int) (x2 : Int) (x3 : Int) (x4 : Int) (G : St) : SS (MTw_defItem P W) some 233 [(0, aR 100), (1, aI x1), (2, aI x2), (3, aI x3), (4, aI x4)] [] G (Tw_defItem_b233 P W x1 x2 x3 x4 G) := by
  refine r_aload_n 234 0 dX15_defItem_233 rfl rfl rfl ?_
  refine r_get 237 (aI (G 100 32)) dX15_defItem_234 fkX15_470 (fun _ => dsT_100 P W _) nn100 rfl rfl ?_
  refine r_istore 239 [(6, aI (G 100 32)), (0, aR 100), (1, aI x1), (2, aI x2), (3, aI x3), (4, aI x4)] dX15_defItem_237 rfl rfl rfl ?_
  refine r_aload_n 240 1 dX15_defItem_239 rfl rfl rfl ?_
  refine r_get 243 (aI (G 100 7)) dX15_defItem_240 fkX15_323 (fun _ => dsT_100 P W _) nn100 rfl rfl ?_
  refine r_if_ne 252 246 dX15_defItem_243 rfl rfl ?_ ?_
  · refine r_to [1, 2, 3, 4, 5, 0] [(0, aR 100), (1, aI x1), (2, aI x2), (3, aI x3), (4, aI x4), (6, aI (G 100 32))] rfl ?_
    exact s_Tw_defItem_b252 P W x1 x2 x3 x4 (G 100 32) G
  · refine r_aload_n 247 1 dX15_defItem_246 rfl rfl rfl ?_
    refine r_bipush 249 61 dX15_defItem_247 rfl rfl ?_
    refine r_callvV 252 (Mc := MTw_sign P W) (o := 100) (as := [aI 61]) (st := []) dX15_defItem_249 rfl (c_Tw_sign P W 61 G) lkX15_442 (cmTw_sign P W) rfl rfl rfl (fun _ => dsT_100 P W _) nn100 rfl (Nat.le_of_ble_eq_true rfl) (Nat.le_of_ble_eq_true rfl) (fun _ => rfl) rfl (fun z21 G22 => ?_)
    refine r_to [1, 2, 3, 4, 5, 0] [(0, aR 100), (1, aI x1), (2, aI x2), (3, aI x3), (4, aI x4), (6, aI (G 100 32))] rfl ?_
    exact s_Tw_defItem_b252 P W x1 x2 x3 x4 (G 100 32) G22
theorem s_Tw_defItem_b222 (P W : Int) (x1 : Int) (x2 : Int) (x3 : Int) (x4 : Int) (G : St) : SS (MTw_defItem P W) some 222 [(0, aR 100), (1, aI x1), (2, aI x2), (3, aI x3), (4, aI x4)] [] G (Tw_defItem_b222 P W x1 x2 x3 x4 G) := by
  refine r_aload_n 223 0 dX15_defItem_222 rfl rfl rfl ?_
  refine r_get 226 (aI (G 100 7)) dX15_defItem_223 fkX15_323 (fun _ => dsT_100 P W _) nn100 rfl rfl ?_
  refine r_if_ne 233 229 dX15_defItem_226 rfl rfl ?_ ?_
  · exact s_Tw_defItem_b233 P W x1 x2 x3 x4 G
  · refine r_aload_n 230 0 dX15_defItem_229 rfl rfl rfl ?_
    refine r_callvV 233 (Mc := MTw_sortWord P W) (o := 100) (as := []) (st := []) dX15_defItem_230 rfl (c_Tw_sortWord P W G) lkX15_473 (cmTw_sortWord P W) rfl rfl rfl (fun _ => dsT_100 P W _) nn100 rfl (Nat.le_of_ble_eq_true rfl) (Nat.le_of_ble_eq_true rfl) (fun _ => rfl) rfl (fun z23 G24 => ?_)
    exact s_Tw_defItem_b233 P W x1 x2 x3 x4 G24
theorem s_Tw_defItem_b209 (P W : Int) (x1 : Int) (x2 : Int) (x3 : Int) (x4 : Int) (G : St) : SS (MTw_defItem P W) some 209 [(0, aR 100), (1, aI x1), (2, aI x2), (3, aI x3), (4, aI x4)] [] G (Tw_defItem_b209 P W x1 x2 x3 x4 G) := by
  refine r_aload_n 210 0 dX15_defItem_209 rfl rfl rfl ?_
  refine r_get 213 (aI (G 100 7)) dX15_defItem_210 fkX15_323 (fun _ => dsT_100 P W _) nn100 rfl rfl ?_
  refine r_if_ne 222 216 dX15_defItem_213 rfl rfl ?_ ?_
  · exact s_Tw_defItem_b222 P W x1 x2 x3 x4 G
  · refine r_aload_n 217 0 dX15_defItem_216 rfl rfl rfl ?_
    refine r_bipush 219 58 dX15_defItem_217 rfl rfl ?_
    refine r_callvV 222 (Mc := MTw_sign P W) (o := 100) (as := [aI 58]) (st := []) dX15_defItem_219 rfl (c_Tw_sign P W 58 G) lkX15_442 (cmTw_sign P W) rfl rfl rfl (fun _ => dsT_100 P W _) nn100 rfl (Nat.le_of_ble_eq_true rfl) (Nat.le_of_ble_eq_true rfl) (fun _ => rfl) rfl (fun z25 G26 => ?_)
    exact s_Tw_defItem_b222 P W x1 x2 x3 x4 G26
theorem s_Tw_defItem_b196 (P W : Int) (x1 : Int) (x2 : Int) (x3 : Int) (x4 : Int) (G : St) : SS (MTw_defItem P W) some 196 [(0, aR 100), (1, aI x1), (2, aI x2), (3, aI x3), (4, aI x4)] [] G (Tw_defItem_b196 P W x1 x2 x3 x4 G) := by
  refine r_aload_n 197 0 dX15_defItem_196 rfl rfl rfl ?_
  refine r_get 200 (aI (G 100 7)) dX15_defItem_197 fkX15_323 (fun _ => dsT_100 P W _) nn100 rfl rfl ?_
  refine r_if_ne 209 203 dX15_defItem_200 rfl rfl ?_ ?_
  · exact s_Tw_defItem_b209 P W x1 x2 x3 x4 G
  · refine r_aload_n 204 0 dX15_defItem_203 rfl rfl rfl ?_
    refine r_bipush 206 41 dX15_defItem_204 rfl rfl ?_
    refine r_callvV 209 (Mc := MTw_sign P W) (o := 100) (as := [aI 41]) (st := []) dX15_defItem_206 rfl (c_Tw_sign P W 41 G) lkX15_442 (cmTw_sign P W) rfl rfl rfl (fun _ => dsT_100 P W _) nn100 rfl (Nat.le_of_ble_eq_true rfl) (Nat.le_of_ble_eq_true rfl) (fun _ => rfl) rfl (fun z27 G28 => ?_)
    exact s_Tw_defItem_b209 P W x1 x2 x3 x4 G28
theorem s_Tw_defItem_b189 (P W : Int) (x1 : Int) (x2 : Int) (x3 : Int) (x4 : Int) (X76 : Int × St → Option (Int × St)) (hX76 : ∀ s, So (MTw_defItem P W) 76 [(0, aR 100), (1, aI x1), (2, aI x2), (3, aI x3), (4, aI x4), (5, aI (s.1))] [] s.2 (X76 s)) (x5 : Int) (s0 : Int) (s1 : Int) (G : St) : SS (MTw_defItem P W) (lk X76 some) 189 [(0, aR 100), (1, aI x1), (2, aI x2), (3, aI x3), (4, aI x4), (5, aI x5)] [aI s0, aI s1, aR 100] G (Tw_defItem_b189 P W x1 x2 x3 x4 x5 s0 s1 G) := by
  refine r_iadd 190 dX15_defItem_189 rfl ?_
  refine r_putI 193 dX15_defItem_190 fkX15_326 (fun _ => dsT_100 P W _) nn100 rfl rfl ?_
  refine ss_tk (fun G40 => ?_)
  refine r_goto 76 dX15_defItem_193 rfl ?_
  exact SS.back (hX76 (x5, G40))
theorem s_Tw_defItem_b128 (P W : Int) (x1 : Int) (x2 : Int) (x3 : Int) (x4 : Int) (X76 : Int × St → Option (Int × St)) (hX76 : ∀ s, So (MTw_defItem P W) 76 [(0, aR 100), (1, aI x1), (2, aI x2), (3, aI x3), (4, aI x4), (5, aI (s.1))] [] s.2 (X76 s)) (x5 : Int) (x6 : Int) (x7 : Int) (G : St) : SS (MTw_defItem P W) (lk X76 some) 128 [(0, aR 100), (1, aI x1), (2, aI x2), (3, aI x3), (4, aI x4), (5, aI x5), (6, aI x6), (7, aI x7)] [] G (Tw_defItem_b128 P W x1 x2 x3 x4 x5 x6 x7 G) := by
  refine r_aload_n 129 0 dX15_defItem_128 rfl rfl rfl ?_
  refine r_get 132 (aI (G 100 7)) dX15_defItem_129 fkX15_323 (fun _ => dsT_100 P W _) nn100 rfl rfl ?_
  refine r_if_ne 193 135 dX15_defItem_132 rfl rfl ?_ ?_
  · refine r_goto 76 dX15_defItem_193 rfl ?_
    refine r_to [0, 1, 2, 3, 4, 5] [(0, aR 100), (1, aI x1), (2, aI x2), (3, aI x3), (4, aI x4), (5, aI x5)] rfl ?_
    exact SS.back (hX76 (x5, G))
  · refine r_aload_n 136 0 dX15_defItem_135 rfl rfl rfl ?_
    refine r_bipush 138 27 dX15_defItem_136 rfl rfl ?_
    refine r_iload 140 7 dX15_defItem_138 rfl rfl ?_
    refine r_aload_n 141 0 dX15_defItem_140 rfl rfl rfl ?_
    refine r_get 144 (aI (G 100 32)) dX15_defItem_141 fkX15_470 (fun _ => dsT_100 P W _) nn100 rfl rfl ?_
    refine r_iload 146 6 dX15_defItem_144 rfl rfl ?_
    refine r_callvI 149 (Mc := MTw_put P W) (o := 100) (as := [aI 27, aI x7, aI (G 100 32), aI x6]) (st := []) dX15_defItem_146 rfl (c_Tw_put P W 27 x7 (G 100 32) x6 G) lkX15_423 (cmTw_put P W) rfl rfl rfl (fun _ => dsT_100 P W _) nn100 rfl (Nat.le_of_ble_eq_true rfl) (Nat.le_of_ble_eq_true rfl) (fun _ => rfl) rfl (fun z33 G34 => ?_)
    refine r_istore 151 [(8, aI z33), (0, aR 100), (1, aI x1), (2, aI x2), (3, aI x3), (4, aI x4), (5, aI x5), (6, aI x6), (7, aI x7)] dX15_defItem_149 rfl rfl rfl ?_
    refine r_aload_n 152 1 dX15_defItem_151 rfl rfl rfl ?_
    refine r_get 155 (aR 117) dX15_defItem_152 fkX15_28 (fun _ => dsT_100 P W _) nn100 rfl rfl ?_
    refine r_iload 157 5 dX15_defItem_155 rfl rfl ?_
    refine r_dup2 158 dX15_defItem_157 rfl rfl rfl ?_
    refine r_iald 159 dX15_defItem_158 (fun _ _ _ => dsT_117 P W _) (fun _ _ => nn117) rfl ?_
    refine r_iconst 160 1 dX15_defItem_159 rfl rfl ?_
    refine r_iadd 161 dX15_defItem_160 rfl ?_
    refine r_iast 162 dX15_defItem_161 (fun _ _ _ => dsT_117 P W _) (fun _ _ => nn117) rfl ?_
    refine ss_tk (fun G35 => ?_)
    refine r_aload_n 163 1 dX15_defItem_162 rfl rfl rfl ?_
    refine r_callvV 166 (Mc := MTw_gap P W) (o := 100) (as := []) (st := []) dX15_defItem_163 rfl (c_Tw_gap P W G35) lkX15_383 (cmTw_gap P W) rfl rfl rfl (fun _ => dsT_100 P W _) nn100 rfl (Nat.le_of_ble_eq_true rfl) (Nat.le_of_ble_eq_true rfl) (fun _ => rfl) rfl (fun z36 G37 => ?_)
    refine r_aload_n 167 1 dX15_defItem_166 rfl rfl rfl ?_
    refine r_bipush 169 44 dX15_defItem_167 rfl rfl ?_
    refine r_callvI 172 (Mc := MTw_isSign P W) (o := 100) (as := [aI 44]) (st := []) dX15_defItem_169 rfl (c_Tw_isSign P W 44 G37) lkX15_408 (cmTw_isSign P W) rfl rfl rfl (fun _ => dsT_100 P W _) nn100 rfl (Nat.le_of_ble_eq_true rfl) (Nat.le_of_ble_eq_true rfl) (fun _ => rfl) rfl (fun z38 G39 => ?_)
    refine r_istore 174 [(5, aI z38), (8, aI z33), (0, aR 100), (1, aI x1), (2, aI x2), (3, aI x3), (4, aI x4), (6, aI x6), (7, aI x7)] dX15_defItem_172 rfl rfl rfl ?_
    refine r_aload_n 175 2 dX15_defItem_174 rfl rfl rfl ?_
    refine r_dup 176 dX15_defItem_175 rfl rfl ?_
    refine r_get 179 (aI (G39 100 6)) dX15_defItem_176 fkX15_326 (fun _ => dsT_100 P W _) nn100 rfl rfl ?_
    refine r_iload 181 0 dX15_defItem_179 rfl rfl ?_
    refine SS.phi (fun VV_ => Tw_defItem_b189 P W x1 x2 x3 x4 z38 VV_ (G39 100 6) G39) ?_
    refine r_if_eq 188 184 dX15_defItem_181 rfl rfl ?_ ?_
    · refine r_iconst 189 0 dX15_defItem_188 rfl rfl ?_
      refine r_to [2, 3, 4, 5, 6, 0] [(0, aR 100), (1, aI x1), (2, aI x2), (3, aI x3), (4, aI x4), (5, aI z38)] rfl ?_
      exact s_Tw_defItem_b189 P W x1 x2 x3 x4 X76 hX76 z38 0 (G39 100 6) G39
    · refine r_iconst 185 1 dX15_defItem_184 rfl rfl ?_
      refine r_goto 189 dX15_defItem_185 rfl ?_
      refine r_to [2, 3, 4, 5, 6, 0] [(0, aR 100), (1, aI x1), (2, aI x2), (3, aI x3), (4, aI x4), (5, aI z38)] rfl ?_
      exact s_Tw_defItem_b189 P W x1 x2 x3 x4 X76 hX76 z38 1 (G39 100 6) G39
theorem s_Tw_defItem_b117 (P W : Int) (x1 : Int) (x2 : Int) (x3 : Int) (x4 : Int) (X76 : Int × St → Option (Int × St)) (hX76 : ∀ s, So (MTw_defItem P W) 76 [(0, aR 100), (1, aI x1), (2, aI x2), (3, aI x3), (4, aI x4), (5, aI (s.1))] [] s.2 (X76 s)) (x5 : Int) (x6 : Int) (x7 : Int) (G : St) : SS (MTw_defItem P W) (lk X76 some) 117 [(0, aR 100), (1, aI x1), (2, aI x2), (3, aI x3), (4, aI x4), (5, aI x5), (6, aI x6), (7, aI x7)] [] G (Tw_defItem_b117 P W x1 x2 x3 x4 x5 x6 x7 G) := by
  refine r_aload_n 118 0 dX15_defItem_117 rfl rfl rfl ?_
  refine r_get 121 (aI (G 100 7)) dX15_defItem_118 fkX15_323 (fun _ => dsT_100 P W _) nn100 rfl rfl ?_
  refine r_if_ne 128 124 dX15_defItem_121 rfl rfl ?_ ?_
  · exact s_Tw_defItem_b128 P W x1 x2 x3 x4 X76 hX76 x5 x6 x7 G
  · refine r_aload_n 125 0 dX15_defItem_124 rfl rfl rfl ?_
    refine r_callvV 128 (Mc := MTw_sortWord P W) (o := 100) (as := []) (st := []) dX15_defItem_125 rfl (c_Tw_sortWord P W G) lkX15_473 (cmTw_sortWord P W) rfl rfl rfl (fun _ => dsT_100 P W _) nn100 rfl (Nat.le_of_ble_eq_true rfl) (Nat.le_of_ble_eq_true rfl) (fun _ => rfl) rfl (fun z41 G42 => ?_)
    exact s_Tw_defItem_b128 P W x1 x2 x3 x4 X76 hX76 x5 x6 x7 G42
theorem s_Tw_defItem_s76 (P W : Int) (x1 : Int) (x2 : Int) (x3 : Int) (x4 : Int) (X76 : Int × St → Option (Int × St)) (hX76 : ∀ s, So (MTw_defItem P W) 76 [(0, aR 100), (1, aI x1), (2, aI x2), (3, aI x3), (4, aI x4), (5, aI (s.1))] [] s.2 (X76 s)) (x5 : Int) (G : St) : SS (MTw_defItem P W) (lk X76 some) 76 [(0, aR 100), (1, aI x1), (2, aI x2), (3, aI x3), (4, aI x4), (5, aI x5)] [] G (Tw_defItem_s76 P W x1 x2 x3 x4 x5 G) := by
  refine r_iload 78 5 dX15_defItem_76 rfl rfl ?_
  refine r_if_eq 196 81 dX15_defItem_78 rfl rfl ?_ ?_
  · refine SS.ex ?_
    refine r_to [0, 1, 2, 3, 4] [(0, aR 100), (1, aI x1), (2, aI x2), (3, aI x3), (4, aI x4)] rfl ?_
    exact s_Tw_defItem_b196 P W x1 x2 x3 x4 G
  · refine r_aload_n 82 0 dX15_defItem_81 rfl rfl rfl ?_
    refine r_get 85 (aI (G 100 7)) dX15_defItem_82 fkX15_323 (fun _ => dsT_100 P W _) nn100 rfl rfl ?_
    refine r_if_ne 196 88 dX15_defItem_85 rfl rfl ?_ ?_
    · refine SS.ex ?_
      refine r_to [0, 1, 2, 3, 4] [(0, aR 100), (1, aI x1), (2, aI x2), (3, aI x3), (4, aI x4)] rfl ?_
      exact s_Tw_defItem_b196 P W x1 x2 x3 x4 G
    · refine r_aload_n 89 0 dX15_defItem_88 rfl rfl rfl ?_
      refine r_callvV 92 (Mc := MTw_gap P W) (o := 100) (as := []) (st := []) dX15_defItem_89 rfl (c_Tw_gap P W G) lkX15_383 (cmTw_gap P W) rfl rfl rfl (fun _ => dsT_100 P W _) nn100 rfl (Nat.le_of_ble_eq_true rfl) (Nat.le_of_ble_eq_true rfl) (fun _ => rfl) rfl (fun z29 G30 => ?_)
      refine r_aload_n 93 0 dX15_defItem_92 rfl rfl rfl ?_
      refine r_get 96 (aI (G30 100 6)) dX15_defItem_93 fkX15_326 (fun _ => dsT_100 P W _) nn100 rfl rfl ?_
      refine r_istore 98 [(6, aI (G30 100 6)), (0, aR 100), (1, aI x1), (2, aI x2), (3, aI x3), (4, aI x4), (5, aI x5)] dX15_defItem_96 rfl rfl rfl ?_
      refine r_aload_n 99 1 dX15_defItem_98 rfl rfl rfl ?_
      refine r_callvI 102 (Mc := MTw_name P W) (o := 100) (as := []) (st := []) dX15_defItem_99 rfl (c_Tw_name P W G30) lkX15_445 (cmTw_name P W) rfl rfl rfl (fun _ => dsT_100 P W _) nn100 rfl (Nat.le_of_ble_eq_true rfl) (Nat.le_of_ble_eq_true rfl) (fun _ => rfl) rfl (fun z31 G32 => ?_)
      refine r_istore 104 [(7, aI z31), (6, aI (G30 100 6)), (0, aR 100), (1, aI x1), (2, aI x2), (3, aI x3), (4, aI x4), (5, aI x5)] dX15_defItem_102 rfl rfl rfl ?_
      refine r_aload_n 105 2 dX15_defItem_104 rfl rfl rfl ?_
      refine r_get 108 (aI (G32 100 7)) dX15_defItem_105 fkX15_323 (fun _ => dsT_100 P W _) nn100 rfl rfl ?_
      refine r_if_ne 117 111 dX15_defItem_108 rfl rfl ?_ ?_
      · refine r_to [2, 3, 4, 5, 6, 7, 1, 0] [(0, aR 100), (1, aI x1), (2, aI x2), (3, aI x3), (4, aI x4), (5, aI x5), (6, aI (G30 100 6)), (7, aI z31)] rfl ?_
        exact s_Tw_defItem_b117 P W x1 x2 x3 x4 X76 hX76 x5 (G30 100 6) z31 G32
      · refine r_aload_n 112 2 dX15_defItem_111 rfl rfl rfl ?_
        refine r_bipush 114 58 dX15_defItem_112 rfl rfl ?_
        refine r_callvV 117 (Mc := MTw_sign P W) (o := 100) (as := [aI 58]) (st := []) dX15_defItem_114 rfl (c_Tw_sign P W 58 G32) lkX15_442 (cmTw_sign P W) rfl rfl rfl (fun _ => dsT_100 P W _) nn100 rfl (Nat.le_of_ble_eq_true rfl) (Nat.le_of_ble_eq_true rfl) (fun _ => rfl) rfl (fun z43 G44 => ?_)
        refine r_to [2, 3, 4, 5, 6, 7, 1, 0] [(0, aR 100), (1, aI x1), (2, aI x2), (3, aI x3), (4, aI x4), (5, aI x5), (6, aI (G30 100 6)), (7, aI z31)] rfl ?_
        exact s_Tw_defItem_b117 P W x1 x2 x3 x4 X76 hX76 x5 (G30 100 6) z31 G44
theorem sl_Tw_defItem_76 (P W : Int) (x1 : Int) (x2 : Int) (x3 : Int) (x4 : Int) (x5 : Int) (G : St) : SS (MTw_defItem P W) some 76 [(0, aR 100), (1, aI x1), (2, aI x2), (3, aI x3), (4, aI x4), (5, aI x5)] [] G (Tw_defItem_l76 P W x1 x2 x3 x4 x5 G) := by
  exact SS.loop (σ := Int × St) (fun s => [(0, aR 100), (1, aI x1), (2, aI x2), (3, aI x3), (4, aI x4), (5, aI (s.1))]) (fun s => s.2) (fun s => Tw_defItem_s76 P W x1 x2 x3 x4 s.1 s.2) (fun X76 hX76 s => s_Tw_defItem_s76 P W x1 x2 x3 x4  X76 hX76 s.1 s.2) (x5, G)
theorem s_Tw_defItem_b74 (P W : Int) (x1 : Int) (x2 : Int) (x3 : Int) (x4 : Int) (s0 : Int) (G : St) : SS (MTw_defItem P W) some 74 [(0, aR 100), (1, aI x1), (2, aI x2), (3, aI x3), (4, aI x4)] [aI s0] G (Tw_defItem_b74 P W x1 x2 x3 x4 s0 G) := by
  refine r_istore 76 [(5, aI s0), (0, aR 100), (1, aI x1), (2, aI x2), (3, aI x3), (4, aI x4)] dX15_defItem_74 rfl rfl rfl ?_
  refine r_to [1, 2, 3, 4, 5, 0] [(0, aR 100), (1, aI x1), (2, aI x2), (3, aI x3), (4, aI x4), (5, aI s0)] rfl ?_
  exact sl_Tw_defItem_76 P W x1 x2 x3 x4 s0 G
theorem s_Tw_defItem_b37 (P W : Int) (x1 : Int) (x2 : Int) (x3 : Int) (G : St) : SS (MTw_defItem P W) some 37 [(0, aR 100), (1, aI x1), (2, aI x2), (3, aI x3)] [] G (Tw_defItem_b37 P W x1 x2 x3 G) := by
  refine r_aload_n 38 0 dX15_defItem_37 rfl rfl rfl ?_
  refine r_get 41 (aI (G 100 7)) dX15_defItem_38 fkX15_323 (fun _ => dsT_100 P W _) nn100 rfl rfl ?_
  refine r_if_le 45 44 dX15_defItem_41 rfl rfl ?_ ?_
  · refine r_aload_n 46 0 dX15_defItem_45 rfl rfl rfl ?_
    refine r_bipush 48 26 dX15_defItem_46 rfl rfl ?_
    refine r_iload_n 49 3 dX15_defItem_48 rfl rfl rfl ?_
    refine r_iconst 50 0 dX15_defItem_49 rfl rfl ?_
    refine r_iload_n 51 2 dX15_defItem_50 rfl rfl rfl ?_
    refine r_callvI 54 (Mc := MTw_put P W) (o := 100) (as := [aI 26, aI x3, aI 0, aI x2]) (st := []) dX15_defItem_51 rfl (c_Tw_put P W 26 x3 0 x2 G) lkX15_423 (cmTw_put P W) rfl rfl rfl (fun _ => dsT_100 P W _) nn100 rfl (Nat.le_of_ble_eq_true rfl) (Nat.le_of_ble_eq_true rfl) (fun _ => rfl) rfl (fun z6 G7 => ?_)
    refine r_istore 56 [(4, aI z6), (0, aR 100), (1, aI x1), (2, aI x2), (3, aI x3)] dX15_defItem_54 rfl rfl rfl ?_
    refine r_aload_n 57 1 dX15_defItem_56 rfl rfl rfl ?_
    refine r_callvV 60 (Mc := MTw_gap P W) (o := 100) (as := []) (st := []) dX15_defItem_57 rfl (c_Tw_gap P W G7) lkX15_383 (cmTw_gap P W) rfl rfl rfl (fun _ => dsT_100 P W _) nn100 rfl (Nat.le_of_ble_eq_true rfl) (Nat.le_of_ble_eq_true rfl) (fun _ => rfl) rfl (fun z8 G9 => ?_)
    refine r_aload_n 61 1 dX15_defItem_60 rfl rfl rfl ?_
    refine r_bipush 63 41 dX15_defItem_61 rfl rfl ?_
    refine r_callvI 66 (Mc := MTw_isSign P W) (o := 100) (as := [aI 41]) (st := []) dX15_defItem_63 rfl (c_Tw_isSign P W 41 G9) lkX15_408 (cmTw_isSign P W) rfl rfl rfl (fun _ => dsT_100 P W _) nn100 rfl (Nat.le_of_ble_eq_true rfl) (Nat.le_of_ble_eq_true rfl) (fun _ => rfl) rfl (fun z10 G11 => ?_)
    refine SS.phi (fun VV_ => Tw_defItem_b74 P W x1 x2 x3 z6 VV_ G11) ?_
    refine r_if_ne 73 69 dX15_defItem_66 rfl rfl ?_ ?_
    · refine r_iconst 74 0 dX15_defItem_73 rfl rfl ?_
      refine r_to [1, 2, 3, 4, 0] [(0, aR 100), (1, aI x1), (2, aI x2), (3, aI x3), (4, aI z6)] rfl ?_
      exact s_Tw_defItem_b74 P W x1 x2 x3 z6 0 G11
    · refine r_iconst 70 1 dX15_defItem_69 rfl rfl ?_
      refine r_goto 74 dX15_defItem_70 rfl ?_
      refine r_to [1, 2, 3, 4, 0] [(0, aR 100), (1, aI x1), (2, aI x2), (3, aI x3), (4, aI z6)] rfl ?_
      exact s_Tw_defItem_b74 P W x1 x2 x3 z6 1 G11
  · exact r_return dX15_defItem_44 rfl
theorem s_Tw_defItem (P W : Int) (x1 : Int) (G : St) : SS (MTw_defItem P W) some 0 [(0, aR 100), (1, aI x1)] [] G (Tw_defItem P W x1 G) := by
  refine r_aload_n 1 0 dX15_defItem_0 rfl rfl rfl ?_
  refine r_dup 2 dX15_defItem_1 rfl rfl ?_
  refine r_get 5 (aI (G 100 6)) dX15_defItem_2 fkX15_326 (fun _ => dsT_100 P W _) nn100 rfl rfl ?_
  refine r_iconst 6 3 dX15_defItem_5 rfl rfl ?_
  refine r_iadd 7 dX15_defItem_6 rfl ?_
  refine r_putI 10 dX15_defItem_7 fkX15_326 (fun _ => dsT_100 P W _) nn100 rfl rfl ?_
  refine ss_tk (fun G1 => ?_)
  refine r_aload_n 11 0 dX15_defItem_10 rfl rfl rfl ?_
  refine r_callvV 14 (Mc := MTw_gap P W) (o := 100) (as := []) (st := []) dX15_defItem_11 rfl (c_Tw_gap P W G1) lkX15_383 (cmTw_gap P W) rfl rfl rfl (fun _ => dsT_100 P W _) nn100 rfl (Nat.le_of_ble_eq_true rfl) (Nat.le_of_ble_eq_true rfl) (fun _ => rfl) rfl (fun z2 G3 => ?_)
  refine r_aload_n 15 0 dX15_defItem_14 rfl rfl rfl ?_
  refine r_get 18 (aI (G3 100 6)) dX15_defItem_15 fkX15_326 (fun _ => dsT_100 P W _) nn100 rfl rfl ?_
  refine r_istore_n 19 [(2, aI (G3 100 6)), (0, aR 100), (1, aI x1)] dX15_defItem_18 rfl rfl rfl rfl ?_
  refine r_aload_n 20 1 dX15_defItem_19 rfl rfl rfl ?_
  refine r_callvI 23 (Mc := MTw_name P W) (o := 100) (as := []) (st := []) dX15_defItem_20 rfl (c_Tw_name P W G3) lkX15_445 (cmTw_name P W) rfl rfl rfl (fun _ => dsT_100 P W _) nn100 rfl (Nat.le_of_ble_eq_true rfl) (Nat.le_of_ble_eq_true rfl) (fun _ => rfl) rfl (fun z4 G5 => ?_)
  refine r_istore_n 24 [(3, aI z4), (2, aI (G3 100 6)), (0, aR 100), (1, aI x1)] dX15_defItem_23 rfl rfl rfl rfl ?_
  refine r_aload_n 25 2 dX15_defItem_24 rfl rfl rfl ?_
  refine r_get 28 (aI (G5 100 7)) dX15_defItem_25 fkX15_323 (fun _ => dsT_100 P W _) nn100 rfl rfl ?_
  refine r_if_ne 37 31 dX15_defItem_28 rfl rfl ?_ ?_
  · refine r_to [2, 3, 1, 0] [(0, aR 100), (1, aI x1), (2, aI (G3 100 6)), (3, aI z4)] rfl ?_
    exact s_Tw_defItem_b37 P W x1 (G3 100 6) z4 G5
  · refine r_aload_n 32 2 dX15_defItem_31 rfl rfl rfl ?_
    refine r_bipush 34 40 dX15_defItem_32 rfl rfl ?_
    refine r_callvV 37 (Mc := MTw_sign P W) (o := 100) (as := [aI 40]) (st := []) dX15_defItem_34 rfl (c_Tw_sign P W 40 G5) lkX15_442 (cmTw_sign P W) rfl rfl rfl (fun _ => dsT_100 P W _) nn100 rfl (Nat.le_of_ble_eq_true rfl) (Nat.le_of_ble_eq_true rfl) (fun _ => rfl) rfl (fun z45 G46 => ?_)
    refine r_to [2, 3, 1, 0] [(0, aR 100), (1, aI x1), (2, aI (G3 100 6)), (3, aI z4)] rfl ?_
    exact s_Tw_defItem_b37 P W x1 (G3 100 6) z4 G46
theorem c_Tw_defItem (P W : Int) (x1 : Int) (G : St) : MG (MTw_defItem P W) [aR 100, aI x1] G (Tw_defItem P W x1 G) := MG.of plX15 (Nat.le_of_ble_eq_true rfl) (s_Tw_defItem P W x1 G)
theorem s_Tw_keyword (P W : Int) (x1 : Int) (G : St) : SS (MTw_keyword P W) some 0 [(0, aR 100), (1, aR x1)] [] G (Tw_keyword x1 G) := by
  refine r_aload_n 1 0 dX15_keyword_0 rfl rfl rfl ?_
  refine r_callvV 4 (Mc := MTw_gap P W) (o := 100) (as := []) (st := []) dX15_keyword_1 rfl (c_Tw_gap P W G) lkX15_383 (cmTw_gap P W) rfl rfl rfl (fun _ => dsT_100 P W _) nn100 rfl (Nat.le_of_ble_eq_true rfl) (Nat.le_of_ble_eq_true rfl) (fun _ => rfl) rfl (fun z1 G2 => ?_)
  refine r_aload_n 5 0 dX15_keyword_4 rfl rfl rfl ?_
  refine r_aload_n 6 1 dX15_keyword_5 rfl rfl rfl ?_
  refine r_callvI 9 (Mc := MTw_isWord P W) (o := 100) (as := [aR x1]) (st := []) dX15_keyword_6 rfl (c_Tw_isWord P W x1 G2) lkX15_355 (cmTw_isWord P W) rfl rfl rfl (fun _ => dsT_100 P W _) nn100 rfl (Nat.le_of_ble_eq_true rfl) (Nat.le_of_ble_eq_true rfl) (fun _ => rfl) rfl (fun z3 G4 => ?_)
  refine r_if_ne 22 12 dX15_keyword_9 rfl rfl ?_ ?_
  · refine r_aload_n 23 0 dX15_keyword_22 rfl rfl rfl ?_
    refine r_dup 24 dX15_keyword_23 rfl rfl ?_
    refine r_get 27 (aI (G4 100 6)) dX15_keyword_24 fkX15_326 (fun _ => dsT_100 P W _) nn100 rfl rfl ?_
    refine r_aload_n 28 1 dX15_keyword_27 rfl rfl rfl ?_
    refine r_S_len 31 (st := [aI (G4 100 6), aR 100]) dX15_keyword_28 q2350 rfl (Nat.le_of_ble_eq_true rfl) (Nat.le_of_ble_eq_true rfl) rfl (fun z5 G6 => ?_)
    refine r_iadd 32 dX15_keyword_31 rfl ?_
    refine r_putI 35 dX15_keyword_32 fkX15_326 (fun _ => dsT_100 P W _) nn100 rfl rfl ?_
    refine ss_tk (fun G7 => ?_)
    exact r_return dX15_keyword_35 rfl
  · refine r_aload_n 13 0 dX15_keyword_12 rfl rfl rfl ?_
    refine r_iconst 14 1 dX15_keyword_13 rfl rfl ?_
    refine r_aload_n 15 0 dX15_keyword_14 rfl rfl rfl ?_
    refine r_get 18 (aI (G4 100 6)) dX15_keyword_15 fkX15_326 (fun _ => dsT_100 P W _) nn100 rfl rfl ?_
    refine r_callvV 21 (Mc := MTw_fail P W) (o := 100) (as := [aI 1, aI (G4 100 6)]) (st := []) dX15_keyword_18 rfl (c_Tw_fail P W 1 (G4 100 6) G4) lkX15_390 (cmTw_fail P W) rfl rfl rfl (fun _ => dsT_100 P W _) nn100 rfl (Nat.le_of_ble_eq_true rfl) (Nat.le_of_ble_eq_true rfl) (fun _ => rfl) rfl (fun z8 G9 => ?_)
    exact r_return dX15_keyword_21 rfl
theorem c_Tw_keyword (P W : Int) (x1 : Int) (G : St) : MG (MTw_keyword P W) [aR 100, aR x1] G (Tw_keyword x1 G) := MG.of plX15 (Nat.le_of_ble_eq_true rfl) (s_Tw_keyword P W x1 G)
theorem s_Tw_forStatement_b106 (P W : Int) (x1 : Int) (x4 : Int) (G : St) : SS (MTw_forStatement P W) some 106 [(0, aR 100), (1, aI x1), (4, aI x4)] [] G (Tw_forStatement_b106 P W x1 x4 G) := by
  refine r_aload_n 107 0 dX15_forStatement_106 rfl rfl rfl ?_
  refine r_get 110 (aI (G 100 7)) dX15_forStatement_107 fkX15_323 (fun _ => dsT_100 P W _) nn100 rfl rfl ?_
  refine r_if_ne 138 113 dX15_forStatement_110 rfl rfl ?_ ?_
  · exact r_return dX15_forStatement_138 rfl
  · refine r_aload_n 114 0 dX15_forStatement_113 rfl rfl rfl ?_
    refine r_bipush 116 41 dX15_forStatement_114 rfl rfl ?_
    refine r_iconst 117 0 dX15_forStatement_116 rfl rfl ?_
    refine r_iconst 118 0 dX15_forStatement_117 rfl rfl ?_
    refine r_iload_n 119 1 dX15_forStatement_118 rfl rfl rfl ?_
    refine r_callvI 122 (Mc := MTw_put P W) (o := 100) (as := [aI 41, aI 0, aI 0, aI x1]) (st := []) dX15_forStatement_119 rfl (c_Tw_put P W 41 0 0 x1 G) lkX15_423 (cmTw_put P W) rfl rfl rfl (fun _ => dsT_100 P W _) nn100 rfl (Nat.le_of_ble_eq_true rfl) (Nat.le_of_ble_eq_true rfl) (fun _ => rfl) rfl (fun z12 G13 => ?_)
    refine r_istore_n 123 [(2, aI z12), (0, aR 100), (1, aI x1), (4, aI x4)] dX15_forStatement_122 rfl rfl rfl rfl ?_
    refine r_aload_n 124 1 dX15_forStatement_123 rfl rfl rfl ?_
    refine r_iconst 125 3 dX15_forStatement_124 rfl rfl ?_
    refine r_aload_n 126 1 dX15_forStatement_125 rfl rfl rfl ?_
    refine r_bipush 128 39 dX15_forStatement_126 rfl rfl ?_
    refine r_iload 130 3 dX15_forStatement_128 rfl rfl ?_
    refine r_iconst 131 0 dX15_forStatement_130 rfl rfl ?_
    refine r_iload_n 132 2 dX15_forStatement_131 rfl rfl rfl ?_
    refine r_callvI 135 (Mc := MTw_put P W) (o := 100) (as := [aI 39, aI x4, aI 0, aI x1]) (st := [aI 3, aR 100]) dX15_forStatement_132 rfl (c_Tw_put P W 39 x4 0 x1 G13) lkX15_423 (cmTw_put P W) rfl rfl rfl (fun _ => dsT_100 P W _) nn100 rfl (Nat.le_of_ble_eq_true rfl) (Nat.le_of_ble_eq_true rfl) (fun _ => rfl) rfl (fun z14 G15 => ?_)
    refine r_callvV 138 (Mc := MTw_openBlock P W) (o := 100) (as := [aI 3, aI z14]) (st := []) dX15_forStatement_135 rfl (c_Tw_openBlock P W 3 z14 G15) lkX15_504 (cmTw_openBlock P W) rfl rfl rfl (fun _ => dsT_100 P W _) nn100 rfl (Nat.le_of_ble_eq_true rfl) (Nat.le_of_ble_eq_true rfl) (fun _ => rfl) rfl (fun z16 G17 => ?_)
    exact r_return dX15_forStatement_138 rfl
theorem s_Tw_forStatement_b95 (P W : Int) (x1 : Int) (x4 : Int) (G : St) : SS (MTw_forStatement P W) some 95 [(0, aR 100), (1, aI x1), (4, aI x4)] [] G (Tw_forStatement_b95 P W x1 x4 G) := by
  refine r_aload_n 96 0 dX15_forStatement_95 rfl rfl rfl ?_
  refine r_get 99 (aI (G 100 7)) dX15_forStatement_96 fkX15_323 (fun _ => dsT_100 P W _) nn100 rfl rfl ?_
  refine r_if_ne 106 102 dX15_forStatement_99 rfl rfl ?_ ?_
  · exact s_Tw_forStatement_b106 P W x1 x4 G
  · refine r_aload_n 103 0 dX15_forStatement_102 rfl rfl rfl ?_
    refine r_callvV 106 (Mc := MTw_expression P W) (o := 100) (as := []) (st := []) dX15_forStatement_103 rfl (c_Tw_expression P W G) lkX15_496 (cmTw_expression P W) rfl rfl rfl (fun _ => dsT_100 P W _) nn100 rfl (Nat.le_of_ble_eq_true rfl) (Nat.le_of_ble_eq_true rfl) (fun _ => rfl) rfl (fun z18 G19 => ?_)
    exact s_Tw_forStatement_b106 P W x1 x4 G19
theorem s_Tw_forStatement_b71 (P W : Int) (x1 : Int) (x4 : Int) (G : St) : SS (MTw_forStatement P W) some 71 [(0, aR 100), (1, aI x1), (4, aI x4)] [] G (Tw_forStatement_b71 P W x1 x4 G) := by
  refine r_aload_n 72 0 dX15_forStatement_71 rfl rfl rfl ?_
  refine r_get 75 (aI (G 100 7)) dX15_forStatement_72 fkX15_323 (fun _ => dsT_100 P W _) nn100 rfl rfl ?_
  refine r_if_ne 95 78 dX15_forStatement_75 rfl rfl ?_ ?_
  · exact s_Tw_forStatement_b95 P W x1 x4 G
  · refine r_aload_n 79 0 dX15_forStatement_78 rfl rfl rfl ?_
    refine r_bipush 81 41 dX15_forStatement_79 rfl rfl ?_
    refine r_iconst 82 0 dX15_forStatement_81 rfl rfl ?_
    refine r_iconst 83 0 dX15_forStatement_82 rfl rfl ?_
    refine r_iload_n 84 1 dX15_forStatement_83 rfl rfl rfl ?_
    refine r_callvI 87 (Mc := MTw_put P W) (o := 100) (as := [aI 41, aI 0, aI 0, aI x1]) (st := []) dX15_forStatement_84 rfl (c_Tw_put P W 41 0 0 x1 G) lkX15_423 (cmTw_put P W) rfl rfl rfl (fun _ => dsT_100 P W _) nn100 rfl (Nat.le_of_ble_eq_true rfl) (Nat.le_of_ble_eq_true rfl) (fun _ => rfl) rfl (fun z20 G21 => ?_)
    refine r_istore_n 88 [(2, aI z20), (0, aR 100), (1, aI x1), (4, aI x4)] dX15_forStatement_87 rfl rfl rfl rfl ?_
    refine r_aload_n 89 1 dX15_forStatement_88 rfl rfl rfl ?_
    refine r_ldcsw 92 5 dX15_forStatement_89 q2401 rfl rfl rfl ?_
    refine r_callvV 95 (Mc := MTw_keyword P W) (o := 100) (as := [aR 75]) (st := []) dX15_forStatement_92 rfl (c_Tw_keyword P W 75 G21) lkX15_481 (cmTw_keyword P W) rfl rfl rfl (fun _ => dsT_100 P W _) nn100 rfl (Nat.le_of_ble_eq_true rfl) (Nat.le_of_ble_eq_true rfl) (fun _ => rfl) rfl (fun z22 G23 => ?_)
    refine r_to [1, 2, 3] [(0, aR 100), (1, aI x1), (4, aI x4)] rfl ?_
    exact s_Tw_forStatement_b95 P W x1 x4 G23
theorem s_Tw_forStatement (P W : Int) (x1 : Int) (G : St) : SS (MTw_forStatement P W) some 0 [(0, aR 100), (1, aI x1)] [] G (Tw_forStatement P W x1 G) := by
  refine r_aload_n 1 0 dX15_forStatement_0 rfl rfl rfl ?_
  refine r_bipush 3 20 dX15_forStatement_1 rfl rfl ?_
  refine r_iconst 4 0 dX15_forStatement_3 rfl rfl ?_
  refine r_iconst 5 0 dX15_forStatement_4 rfl rfl ?_
  refine r_iload_n 6 1 dX15_forStatement_5 rfl rfl rfl ?_
  refine r_callvI 9 (Mc := MTw_put P W) (o := 100) (as := [aI 20, aI 0, aI 0, aI x1]) (st := []) dX15_forStatement_6 rfl (c_Tw_put P W 20 0 0 x1 G) lkX15_423 (cmTw_put P W) rfl rfl rfl (fun _ => dsT_100 P W _) nn100 rfl (Nat.le_of_ble_eq_true rfl) (Nat.le_of_ble_eq_true rfl) (fun _ => rfl) rfl (fun z1 G2 => ?_)
  refine r_istore_n 10 [(2, aI z1), (0, aR 100), (1, aI x1)] dX15_forStatement_9 rfl rfl rfl rfl ?_
  refine r_aload_n 11 1 dX15_forStatement_10 rfl rfl rfl ?_
  refine r_dup 12 dX15_forStatement_11 rfl rfl ?_
  refine r_get 15 (aI (G2 100 6)) dX15_forStatement_12 fkX15_326 (fun _ => dsT_100 P W _) nn100 rfl rfl ?_
  refine r_iconst 16 3 dX15_forStatement_15 rfl rfl ?_
  refine r_iadd 17 dX15_forStatement_16 rfl ?_
  refine r_putI 20 dX15_forStatement_17 fkX15_326 (fun _ => dsT_100 P W _) nn100 rfl rfl ?_
  refine ss_tk (fun G3 => ?_)
  refine r_aload_n 21 1 dX15_forStatement_20 rfl rfl rfl ?_
  refine r_callvV 24 (Mc := MTw_gap P W) (o := 100) (as := []) (st := []) dX15_forStatement_21 rfl (c_Tw_gap P W G3) lkX15_383 (cmTw_gap P W) rfl rfl rfl (fun _ => dsT_100 P W _) nn100 rfl (Nat.le_of_ble_eq_true rfl) (Nat.le_of_ble_eq_true rfl) (fun _ => rfl) rfl (fun z4 G5 => ?_)
  refine r_aload_n 25 1 dX15_forStatement_24 rfl rfl rfl ?_
  refine r_get 28 (aI (G5 100 6)) dX15_forStatement_25 fkX15_326 (fun _ => dsT_100 P W _) nn100 rfl rfl ?_
  refine r_istore_n 29 [(3, aI (G5 100 6)), (2, aI z1), (0, aR 100), (1, aI x1)] dX15_forStatement_28 rfl rfl rfl rfl ?_
  refine r_aload_n 30 2 dX15_forStatement_29 rfl rfl rfl ?_
  refine r_callvI 33 (Mc := MTw_name P W) (o := 100) (as := []) (st := []) dX15_forStatement_30 rfl (c_Tw_name P W G5) lkX15_445 (cmTw_name P W) rfl rfl rfl (fun _ => dsT_100 P W _) nn100 rfl (Nat.le_of_ble_eq_true rfl) (Nat.le_of_ble_eq_true rfl) (fun _ => rfl) rfl (fun z6 G7 => ?_)
  refine r_istore 35 [(4, aI z6), (3, aI (G5 100 6)), (2, aI z1), (0, aR 100), (1, aI x1)] dX15_forStatement_33 rfl rfl rfl ?_
  refine r_aload_n 36 3 dX15_forStatement_35 rfl rfl rfl ?_
  refine r_get 39 (aI (G7 100 7)) dX15_forStatement_36 fkX15_323 (fun _ => dsT_100 P W _) nn100 rfl rfl ?_
  refine r_if_le 43 42 dX15_forStatement_39 rfl rfl ?_ ?_
  · refine r_aload_n 44 3 dX15_forStatement_43 rfl rfl rfl ?_
    refine r_bipush 46 38 dX15_forStatement_44 rfl rfl ?_
    refine r_iload 48 0 dX15_forStatement_46 rfl rfl ?_
    refine r_iconst 49 0 dX15_forStatement_48 rfl rfl ?_
    refine r_iload_n 50 1 dX15_forStatement_49 rfl rfl rfl ?_
    refine r_callvI 53 (Mc := MTw_put P W) (o := 100) (as := [aI 38, aI z6, aI 0, aI (G5 100 6)]) (st := []) dX15_forStatement_50 rfl (c_Tw_put P W 38 z6 0 (G5 100 6) G7) lkX15_423 (cmTw_put P W) rfl rfl rfl (fun _ => dsT_100 P W _) nn100 rfl (Nat.le_of_ble_eq_true rfl) (Nat.le_of_ble_eq_true rfl) (fun _ => rfl) rfl (fun z8 G9 => ?_)
    refine r_istore_n 54 [(2, aI z8), (4, aI z6), (3, aI (G5 100 6)), (0, aR 100), (1, aI x1)] dX15_forStatement_53 rfl rfl rfl rfl ?_
    refine r_aload_n 55 3 dX15_forStatement_54 rfl rfl rfl ?_
    refine r_bipush 57 61 dX15_forStatement_55 rfl rfl ?_
    refine r_callvV 60 (Mc := MTw_sign P W) (o := 100) (as := [aI 61]) (st := []) dX15_forStatement_57 rfl (c_Tw_sign P W 61 G9) lkX15_442 (cmTw_sign P W) rfl rfl rfl (fun _ => dsT_100 P W _) nn100 rfl (Nat.le_of_ble_eq_true rfl) (Nat.le_of_ble_eq_true rfl) (fun _ => rfl) rfl (fun z10 G11 => ?_)
    refine r_aload_n 61 3 dX15_forStatement_60 rfl rfl rfl ?_
    refine r_get 64 (aI (G11 100 7)) dX15_forStatement_61 fkX15_323 (fun _ => dsT_100 P W _) nn100 rfl rfl ?_
    refine r_if_ne 71 67 dX15_forStatement_64 rfl rfl ?_ ?_
    · refine r_to [3, 4, 1] [(0, aR 100), (1, aI x1), (4, aI z6)] rfl ?_
      exact s_Tw_forStatement_b71 P W x1 z6 G11
    · refine r_aload_n 68 3 dX15_forStatement_67 rfl rfl rfl ?_
      refine r_callvV 71 (Mc := MTw_expression P W) (o := 100) (as := []) (st := []) dX15_forStatement_68 rfl (c_Tw_expression P W G11) lkX15_496 (cmTw_expression P W) rfl rfl rfl (fun _ => dsT_100 P W _) nn100 rfl (Nat.le_of_ble_eq_true rfl) (Nat.le_of_ble_eq_true rfl) (fun _ => rfl) rfl (fun z24 G25 => ?_)
      refine r_to [3, 4, 1] [(0, aR 100), (1, aI x1), (4, aI z6)] rfl ?_
      exact s_Tw_forStatement_b71 P W x1 z6 G25
  · exact r_return dX15_forStatement_42 rfl
theorem c_Tw_forStatement (P W : Int) (x1 : Int) (G : St) : MG (MTw_forStatement P W) [aR 100, aI x1] G (Tw_forStatement P W x1 G) := MG.of plX15 (Nat.le_of_ble_eq_true rfl) (s_Tw_forStatement P W x1 G)
theorem s_Tw_type (P W : Int) (G : St) : SS (MTw_type P W) some 0 [(0, aR 100)] [] G (Tw_type G) := by
  refine r_aload_n 1 0 dX15_type_0 rfl rfl rfl ?_
  refine r_callvV 4 (Mc := MTw_sortWord P W) (o := 100) (as := []) (st := []) dX15_type_1 rfl (c_Tw_sortWord P W G) lkX15_473 (cmTw_sortWord P W) rfl rfl rfl (fun _ => dsT_100 P W _) nn100 rfl (Nat.le_of_ble_eq_true rfl) (Nat.le_of_ble_eq_true rfl) (fun _ => rfl) rfl (fun z1 G2 => ?_)
  refine r_aload_n 5 0 dX15_type_4 rfl rfl rfl ?_
  refine r_iconst 6 0 dX15_type_5 rfl rfl ?_
  refine r_putI 9 dX15_type_6 fkX15_476 (fun _ => dsT_100 P W _) nn100 rfl rfl ?_
  refine ss_tk (fun G3 => ?_)
  refine r_aload_n 10 0 dX15_type_9 rfl rfl rfl ?_
  refine r_get 13 (aI (G3 100 7)) dX15_type_10 fkX15_323 (fun _ => dsT_100 P W _) nn100 rfl rfl ?_
  refine r_if_le 17 16 dX15_type_13 rfl rfl ?_ ?_
  · refine r_aload_n 18 0 dX15_type_17 rfl rfl rfl ?_
    refine r_callvV 21 (Mc := MTw_gap P W) (o := 100) (as := []) (st := []) dX15_type_18 rfl (c_Tw_gap P W G3) lkX15_383 (cmTw_gap P W) rfl rfl rfl (fun _ => dsT_100 P W _) nn100 rfl (Nat.le_of_ble_eq_true rfl) (Nat.le_of_ble_eq_true rfl) (fun _ => rfl) rfl (fun z4 G5 => ?_)
    refine r_aload_n 22 0 dX15_type_21 rfl rfl rfl ?_
    refine r_bipush 24 91 dX15_type_22 rfl rfl ?_
    refine r_callvI 27 (Mc := MTw_isSign P W) (o := 100) (as := [aI 91]) (st := []) dX15_type_24 rfl (c_Tw_isSign P W 91 G5) lkX15_408 (cmTw_isSign P W) rfl rfl rfl (fun _ => dsT_100 P W _) nn100 rfl (Nat.le_of_ble_eq_true rfl) (Nat.le_of_ble_eq_true rfl) (fun _ => rfl) rfl (fun z6 G7 => ?_)
    refine r_if_eq 70 30 dX15_type_27 rfl rfl ?_ ?_
    · exact r_return dX15_type_70 rfl
    · refine r_aload_n 31 0 dX15_type_30 rfl rfl rfl ?_
      refine r_dup 32 dX15_type_31 rfl rfl ?_
      refine r_get 35 (aI (G7 100 6)) dX15_type_32 fkX15_326 (fun _ => dsT_100 P W _) nn100 rfl rfl ?_
      refine r_iconst 36 1 dX15_type_35 rfl rfl ?_
      refine r_iadd 37 dX15_type_36 rfl ?_
      refine r_putI 40 dX15_type_37 fkX15_326 (fun _ => dsT_100 P W _) nn100 rfl rfl ?_
      refine ss_tk (fun G8 => ?_)
      refine r_aload_n 41 0 dX15_type_40 rfl rfl rfl ?_
      refine r_lconst 42 1 dX15_type_41 rfl rfl rfl ?_
      refine r_ldc2 45 64 dX15_type_42 q2450 (by decide) rfl rfl ?_
      refine r_callvV 48 (Mc := MTw_number P W) (o := 100) (as := [aL 1, aL 64]) (st := []) dX15_type_45 rfl (c_Tw_number P W 1 64 G8) lkX15_438 (cmTw_number P W) rfl rfl rfl (fun _ => dsT_100 P W _) nn100 rfl (Nat.le_of_ble_eq_true rfl) (Nat.le_of_ble_eq_true rfl) (fun _ => rfl) rfl (fun z9 G10 => ?_)
      refine r_aload_n 49 0 dX15_type_48 rfl rfl rfl ?_
      refine r_aload_n 50 0 dX15_type_49 rfl rfl rfl ?_
      refine r_get 53 (aL (G10 100 12)) dX15_type_50 fkX15_396 (fun _ => dsT_100 P W _) nn100 rfl rfl ?_
      refine r_l2iw 54 dX15_type_53 rfl ?_
      refine r_putI 57 dX15_type_54 fkX15_476 (fun _ => dsT_100 P W _) nn100 rfl rfl ?_
      refine ss_tk (fun G11 => ?_)
      refine r_aload_n 58 0 dX15_type_57 rfl rfl rfl ?_
      refine r_get 61 (aI (G11 100 7)) dX15_type_58 fkX15_323 (fun _ => dsT_100 P W _) nn100 rfl rfl ?_
      refine r_if_ne 70 64 dX15_type_61 rfl rfl ?_ ?_
      · exact r_return dX15_type_70 rfl
      · refine r_aload_n 65 0 dX15_type_64 rfl rfl rfl ?_
        refine r_bipush 67 93 dX15_type_65 rfl rfl ?_
        refine r_callvV 70 (Mc := MTw_sign P W) (o := 100) (as := [aI 93]) (st := []) dX15_type_67 rfl (c_Tw_sign P W 93 G11) lkX15_442 (cmTw_sign P W) rfl rfl rfl (fun _ => dsT_100 P W _) nn100 rfl (Nat.le_of_ble_eq_true rfl) (Nat.le_of_ble_eq_true rfl) (fun _ => rfl) rfl (fun z12 G13 => ?_)
        exact r_return dX15_type_70 rfl
  · exact r_return dX15_type_16 rfl
theorem c_Tw_type (P W : Int) (G : St) : MG (MTw_type P W) [aR 100] G (Tw_type G) := MG.of plX15 (Nat.le_of_ble_eq_true rfl) (s_Tw_type P W G)
theorem s_Tw_inputItem_b111 (P W : Int) (x2 : Int) (x3 : Int) (x4 : Int) (s0 : Int) (G : St) : SS (MTw_inputItem P W) some 111 [(0, aR 100), (2, aI x2), (3, aI x3), (4, aI x4)] [aI s0] G (Tw_inputItem_b111 P W x2 x3 x4 s0 G) := by
  refine r_istore 113 [(5, aI s0), (0, aR 100), (2, aI x2), (3, aI x3), (4, aI x4)] dX15_inputItem_111 rfl rfl rfl ?_
  refine r_aload_n 114 1 dX15_inputItem_113 rfl rfl rfl ?_
  refine r_get 117 (aI (G 100 29)) dX15_inputItem_114 fkX15_488 (fun _ => dsT_100 P W _) nn100 rfl rfl ?_
  refine r_iload 119 0 dX15_inputItem_117 rfl rfl ?_
  refine r_iadd 120 dX15_inputItem_119 rfl ?_
  refine r_sipush 123 256 dX15_inputItem_120 rfl rfl ?_
  refine r_icmp_le 133 126 dX15_inputItem_123 rfl rfl ?_ ?_
  · refine r_aload_n 134 1 dX15_inputItem_133 rfl rfl rfl ?_
    refine r_bipush 136 22 dX15_inputItem_134 rfl rfl ?_
    refine r_iload_n 137 3 dX15_inputItem_136 rfl rfl rfl ?_
    refine r_iconst 138 0 dX15_inputItem_137 rfl rfl ?_
    refine r_iload_n 139 2 dX15_inputItem_138 rfl rfl rfl ?_
    refine r_callvI 142 (Mc := MTw_put P W) (o := 100) (as := [aI 22, aI x3, aI 0, aI x2]) (st := []) dX15_inputItem_139 rfl (c_Tw_put P W 22 x3 0 x2 G) lkX15_423 (cmTw_put P W) rfl rfl rfl (fun _ => dsT_100 P W _) nn100 rfl (Nat.le_of_ble_eq_true rfl) (Nat.le_of_ble_eq_true rfl) (fun _ => rfl) rfl (fun z6 G7 => ?_)
    refine r_istore 144 [(6, aI z6), (5, aI s0), (0, aR 100), (2, aI x2), (3, aI x3), (4, aI x4)] dX15_inputItem_142 rfl rfl rfl ?_
    refine r_aload_n 145 2 dX15_inputItem_144 rfl rfl rfl ?_
    refine r_bipush 147 23 dX15_inputItem_145 rfl rfl ?_
    refine r_iload_n 148 4 dX15_inputItem_147 rfl rfl rfl ?_
    refine r_aload_n 149 2 dX15_inputItem_148 rfl rfl rfl ?_
    refine r_get 152 (aI (G7 100 32)) dX15_inputItem_149 fkX15_470 (fun _ => dsT_100 P W _) nn100 rfl rfl ?_
    refine r_iload_n 153 3 dX15_inputItem_152 rfl rfl rfl ?_
    refine r_callvI 156 (Mc := MTw_put P W) (o := 100) (as := [aI 23, aI x3, aI (G7 100 32), aI x2]) (st := []) dX15_inputItem_153 rfl (c_Tw_put P W 23 x3 (G7 100 32) x2 G7) lkX15_423 (cmTw_put P W) rfl rfl rfl (fun _ => dsT_100 P W _) nn100 rfl (Nat.le_of_ble_eq_true rfl) (Nat.le_of_ble_eq_true rfl) (fun _ => rfl) rfl (fun z8 G9 => ?_)
    refine r_istore 158 [(6, aI z8), (5, aI s0), (0, aR 100), (2, aI x2), (3, aI x3), (4, aI x4)] dX15_inputItem_156 rfl rfl rfl ?_
    refine r_aload_n 159 2 dX15_inputItem_158 rfl rfl rfl ?_
    refine r_get 162 (aR 119) dX15_inputItem_159 fkX15_34 (fun _ => dsT_100 P W _) nn100 rfl rfl ?_
    refine r_iload 164 0 dX15_inputItem_162 rfl rfl ?_
    refine r_ldc2 167 256 dX15_inputItem_164 q2452 (by decide) rfl rfl ?_
    refine r_iload 169 5 dX15_inputItem_167 rfl rfl ?_
    refine r_i2l 170 dX15_inputItem_169 rfl ?_
    refine r_lmul 171 dX15_inputItem_170 rfl ?_
    refine r_aload_n 172 2 dX15_inputItem_171 rfl rfl rfl ?_
    refine r_get 175 (aI (G9 100 31)) dX15_inputItem_172 fkX15_476 (fun _ => dsT_100 P W _) nn100 rfl rfl ?_
    refine r_i2l 176 dX15_inputItem_175 rfl ?_
    refine r_ladd 177 dX15_inputItem_176 rfl ?_
    refine r_last 178 dX15_inputItem_177 (fun _ _ _ => dsT_119 P W _) (fun _ _ => nn119) rfl ?_
    refine ss_tk (fun G10 => ?_)
    refine r_aload_n 179 2 dX15_inputItem_178 rfl rfl rfl ?_
    refine r_dup 180 dX15_inputItem_179 rfl rfl ?_
    refine r_get 183 (aI (G10 100 29)) dX15_inputItem_180 fkX15_488 (fun _ => dsT_100 P W _) nn100 rfl rfl ?_
    refine r_iload 185 1 dX15_inputItem_183 rfl rfl ?_
    refine r_iadd 186 dX15_inputItem_185 rfl ?_
    refine r_putI 189 dX15_inputItem_186 fkX15_488 (fun _ => dsT_100 P W _) nn100 rfl rfl ?_
    refine ss_tk (fun G11 => ?_)
    refine r_aload_n 190 2 dX15_inputItem_189 rfl rfl rfl ?_
    refine r_bipush 192 59 dX15_inputItem_190 rfl rfl ?_
    refine r_callvV 195 (Mc := MTw_sign P W) (o := 100) (as := [aI 59]) (st := []) dX15_inputItem_192 rfl (c_Tw_sign P W 59 G11) lkX15_442 (cmTw_sign P W) rfl rfl rfl (fun _ => dsT_100 P W _) nn100 rfl (Nat.le_of_ble_eq_true rfl) (Nat.le_of_ble_eq_true rfl) (fun _ => rfl) rfl (fun z12 G13 => ?_)
    exact r_return dX15_inputItem_195 rfl
  · refine r_aload_n 127 1 dX15_inputItem_126 rfl rfl rfl ?_
    refine r_iconst 128 2 dX15_inputItem_127 rfl rfl ?_
    refine r_iload_n 129 2 dX15_inputItem_128 rfl rfl rfl ?_
    refine r_callvV 132 (Mc := MTw_fail P W) (o := 100) (as := [aI 2, aI x2]) (st := []) dX15_inputItem_129 rfl (c_Tw_fail P W 2 x2 G) lkX15_390 (cmTw_fail P W) rfl rfl rfl (fun _ => dsT_100 P W _) nn100 rfl (Nat.le_of_ble_eq_true rfl) (Nat.le_of_ble_eq_true rfl) (fun _ => rfl) rfl (fun z14 G15 => ?_)
    exact r_return dX15_inputItem_132 rfl
theorem s_Tw_inputItem_b88 (P W : Int) (x2 : Int) (x3 : Int) (x4 : Int) (G : St) : SS (MTw_inputItem P W) some 88 [(0, aR 100), (2, aI x2), (3, aI x3), (4, aI x4)] [] G (Tw_inputItem_b88 P W x2 x3 x4 G) := by
  refine r_aload_n 89 0 dX15_inputItem_88 rfl rfl rfl ?_
  refine r_get 92 (aI (G 100 7)) dX15_inputItem_89 fkX15_323 (fun _ => dsT_100 P W _) nn100 rfl rfl ?_
  refine r_if_le 96 95 dX15_inputItem_92 rfl rfl ?_ ?_
  · refine r_aload_n 97 0 dX15_inputItem_96 rfl rfl rfl ?_
    refine r_get 100 (aI (G 100 31)) dX15_inputItem_97 fkX15_476 (fun _ => dsT_100 P W _) nn100 rfl rfl ?_
    refine SS.phi (fun VV_ => Tw_inputItem_b111 P W x2 x3 x4 VV_ G) ?_
    refine r_if_ne 107 103 dX15_inputItem_100 rfl rfl ?_ ?_
    · refine r_aload_n 108 0 dX15_inputItem_107 rfl rfl rfl ?_
      refine r_get 111 (aI (G 100 31)) dX15_inputItem_108 fkX15_476 (fun _ => dsT_100 P W _) nn100 rfl rfl ?_
      exact s_Tw_inputItem_b111 P W x2 x3 x4 (G 100 31) G
    · refine r_iconst 104 1 dX15_inputItem_103 rfl rfl ?_
      refine r_goto 111 dX15_inputItem_104 rfl ?_
      exact s_Tw_inputItem_b111 P W x2 x3 x4 1 G
  · exact r_return dX15_inputItem_95 rfl
theorem s_Tw_inputItem_b77 (P W : Int) (x2 : Int) (x3 : Int) (x4 : Int) (G : St) : SS (MTw_inputItem P W) some 77 [(0, aR 100), (2, aI x2), (3, aI x3), (4, aI x4)] [] G (Tw_inputItem_b77 P W x2 x3 x4 G) := by
  refine r_aload_n 78 0 dX15_inputItem_77 rfl rfl rfl ?_
  refine r_get 81 (aI (G 100 7)) dX15_inputItem_78 fkX15_323 (fun _ => dsT_100 P W _) nn100 rfl rfl ?_
  refine r_if_ne 88 84 dX15_inputItem_81 rfl rfl ?_ ?_
  · exact s_Tw_inputItem_b88 P W x2 x3 x4 G
  · refine r_aload_n 85 0 dX15_inputItem_84 rfl rfl rfl ?_
    refine r_callvV 88 (Mc := MTw_type P W) (o := 100) (as := []) (st := []) dX15_inputItem_85 rfl (c_Tw_type P W G) lkX15_485 (cmTw_type P W) rfl rfl rfl (fun _ => dsT_100 P W _) nn100 rfl (Nat.le_of_ble_eq_true rfl) (Nat.le_of_ble_eq_true rfl) (fun _ => rfl) rfl (fun z16 G17 => ?_)
    exact s_Tw_inputItem_b88 P W x2 x3 x4 G17
theorem s_Tw_inputItem_b57 (P W : Int) (x2 : Int) (x3 : Int) (G : St) : SS (MTw_inputItem P W) some 57 [(0, aR 100), (2, aI x2), (3, aI x3)] [] G (Tw_inputItem_b57 P W x2 x3 G) := by
  refine r_aload_n 58 0 dX15_inputItem_57 rfl rfl rfl ?_
  refine r_get 61 (aL (G 100 12)) dX15_inputItem_58 fkX15_396 (fun _ => dsT_100 P W _) nn100 rfl rfl ?_
  refine r_l2iw 62 dX15_inputItem_61 rfl ?_
  refine r_istore 64 [(4, aI (w32 (G 100 12))), (0, aR 100), (2, aI x2), (3, aI x3)] dX15_inputItem_62 rfl rfl rfl ?_
  refine r_aload_n 65 1 dX15_inputItem_64 rfl rfl rfl ?_
  refine r_get 68 (aI (G 100 7)) dX15_inputItem_65 fkX15_323 (fun _ => dsT_100 P W _) nn100 rfl rfl ?_
  refine r_if_ne 77 71 dX15_inputItem_68 rfl rfl ?_ ?_
  · refine r_to [1, 2, 3, 0] [(0, aR 100), (2, aI x2), (3, aI x3), (4, aI (w32 (G 100 12)))] rfl ?_
    exact s_Tw_inputItem_b77 P W x2 x3 (w32 (G 100 12)) G
  · refine r_aload_n 72 1 dX15_inputItem_71 rfl rfl rfl ?_
    refine r_bipush 74 58 dX15_inputItem_72 rfl rfl ?_
    refine r_callvV 77 (Mc := MTw_sign P W) (o := 100) (as := [aI 58]) (st := []) dX15_inputItem_74 rfl (c_Tw_sign P W 58 G) lkX15_442 (cmTw_sign P W) rfl rfl rfl (fun _ => dsT_100 P W _) nn100 rfl (Nat.le_of_ble_eq_true rfl) (Nat.le_of_ble_eq_true rfl) (fun _ => rfl) rfl (fun z18 G19 => ?_)
    refine r_to [1, 2, 3, 0] [(0, aR 100), (2, aI x2), (3, aI x3), (4, aI (w32 (G 100 12)))] rfl ?_
    exact s_Tw_inputItem_b77 P W x2 x3 (w32 (G 100 12)) G19
theorem s_Tw_inputItem_b38 (P W : Int) (x2 : Int) (x3 : Int) (G : St) : SS (MTw_inputItem P W) some 38 [(0, aR 100), (2, aI x2), (3, aI x3)] [] G (Tw_inputItem_b38 P W x2 x3 G) := by
  refine r_aload_n 39 0 dX15_inputItem_38 rfl rfl rfl ?_
  refine r_get 42 (aI (G 100 7)) dX15_inputItem_39 fkX15_323 (fun _ => dsT_100 P W _) nn100 rfl rfl ?_
  refine r_if_ne 57 45 dX15_inputItem_42 rfl rfl ?_ ?_
  · exact s_Tw_inputItem_b57 P W x2 x3 G
  · refine r_aload_n 46 0 dX15_inputItem_45 rfl rfl rfl ?_
    refine r_lconst 47 0 dX15_inputItem_46 rfl rfl rfl ?_
    refine r_aload_n 48 0 dX15_inputItem_47 rfl rfl rfl ?_
    refine r_get 51 (aI P) dX15_inputItem_48 fkX15_299 (fun _ => dsT_100 P W _) nn100 rfl rfl ?_
    refine r_i2l 52 dX15_inputItem_51 rfl ?_
    refine r_lconst 53 1 dX15_inputItem_52 rfl rfl rfl ?_
    refine r_lsub 54 dX15_inputItem_53 rfl ?_
    refine r_callvV 57 (Mc := MTw_number P W) (o := 100) (as := [aL 0, aL (P - 1)]) (st := []) dX15_inputItem_54 rfl (c_Tw_number P W 0 (P - 1) G) lkX15_438 (cmTw_number P W) rfl rfl rfl (fun _ => dsT_100 P W _) nn100 rfl (Nat.le_of_ble_eq_true rfl) (Nat.le_of_ble_eq_true rfl) (fun _ => rfl) rfl (fun z20 G21 => ?_)
    exact s_Tw_inputItem_b57 P W x2 x3 G21
theorem s_Tw_inputItem (P W : Int) (x1 : Int) (G : St) : SS (MTw_inputItem P W) some 0 [(0, aR 100), (1, aI x1)] [] G (Tw_inputItem P W x1 G) := by
  refine r_aload_n 1 0 dX15_inputItem_0 rfl rfl rfl ?_
  refine r_dup 2 dX15_inputItem_1 rfl rfl ?_
  refine r_get 5 (aI (G 100 6)) dX15_inputItem_2 fkX15_326 (fun _ => dsT_100 P W _) nn100 rfl rfl ?_
  refine r_iconst 6 5 dX15_inputItem_5 rfl rfl ?_
  refine r_iadd 7 dX15_inputItem_6 rfl ?_
  refine r_putI 10 dX15_inputItem_7 fkX15_326 (fun _ => dsT_100 P W _) nn100 rfl rfl ?_
  refine ss_tk (fun G1 => ?_)
  refine r_aload_n 11 0 dX15_inputItem_10 rfl rfl rfl ?_
  refine r_callvV 14 (Mc := MTw_gap P W) (o := 100) (as := []) (st := []) dX15_inputItem_11 rfl (c_Tw_gap P W G1) lkX15_383 (cmTw_gap P W) rfl rfl rfl (fun _ => dsT_100 P W _) nn100 rfl (Nat.le_of_ble_eq_true rfl) (Nat.le_of_ble_eq_true rfl) (fun _ => rfl) rfl (fun z2 G3 => ?_)
  refine r_aload_n 15 0 dX15_inputItem_14 rfl rfl rfl ?_
  refine r_get 18 (aI (G3 100 6)) dX15_inputItem_15 fkX15_326 (fun _ => dsT_100 P W _) nn100 rfl rfl ?_
  refine r_istore_n 19 [(2, aI (G3 100 6)), (0, aR 100), (1, aI x1)] dX15_inputItem_18 rfl rfl rfl rfl ?_
  refine r_aload_n 20 1 dX15_inputItem_19 rfl rfl rfl ?_
  refine r_callvI 23 (Mc := MTw_name P W) (o := 100) (as := []) (st := []) dX15_inputItem_20 rfl (c_Tw_name P W G3) lkX15_445 (cmTw_name P W) rfl rfl rfl (fun _ => dsT_100 P W _) nn100 rfl (Nat.le_of_ble_eq_true rfl) (Nat.le_of_ble_eq_true rfl) (fun _ => rfl) rfl (fun z4 G5 => ?_)
  refine r_istore_n 24 [(3, aI z4), (2, aI (G3 100 6)), (0, aR 100), (1, aI x1)] dX15_inputItem_23 rfl rfl rfl rfl ?_
  refine r_aload_n 25 2 dX15_inputItem_24 rfl rfl rfl ?_
  refine r_get 28 (aI (G5 100 7)) dX15_inputItem_25 fkX15_323 (fun _ => dsT_100 P W _) nn100 rfl rfl ?_
  refine r_if_ne 38 31 dX15_inputItem_28 rfl rfl ?_ ?_
  · refine r_to [2, 1, 0] [(0, aR 100), (2, aI (G3 100 6)), (3, aI z4)] rfl ?_
    exact s_Tw_inputItem_b38 P W (G3 100 6) z4 G5
  · refine r_aload_n 32 2 dX15_inputItem_31 rfl rfl rfl ?_
    refine r_ldcsw 35 1 dX15_inputItem_32 q2397 rfl rfl rfl ?_
    refine r_callvV 38 (Mc := MTw_keyword P W) (o := 100) (as := [aR 71]) (st := []) dX15_inputItem_35 rfl (c_Tw_keyword P W 71 G5) lkX15_481 (cmTw_keyword P W) rfl rfl rfl (fun _ => dsT_100 P W _) nn100 rfl (Nat.le_of_ble_eq_true rfl) (Nat.le_of_ble_eq_true rfl) (fun _ => rfl) rfl (fun z22 G23 => ?_)
    refine r_to [2, 1, 0] [(0, aR 100), (2, aI (G3 100 6)), (3, aI z4)] rfl ?_
    exact s_Tw_inputItem_b38 P W (G3 100 6) z4 G23
theorem c_Tw_inputItem (P W : Int) (x1 : Int) (G : St) : MG (MTw_inputItem P W) [aR 100, aI x1] G (Tw_inputItem P W x1 G) := MG.of plX15 (Nat.le_of_ble_eq_true rfl) (s_Tw_inputItem P W x1 G)
