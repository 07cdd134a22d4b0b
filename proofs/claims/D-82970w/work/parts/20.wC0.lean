set_option maxRecDepth 100000
theorem s_Ho_feed_s3 (P W : Int) (x1 : Int) (x2 : Int) (x3 : Int) (x4 : Int) (x5 : Int) (X3 : Int × St → Option (Int × St)) (hX3 : ∀ s, So (MHo_feed P W) 3 [(0, aR 100), (1, aI x1), (2, aI x2), (3, aI x3), (4, aI x4), (5, aI x5), (6, aI (s.1))] [] s.2 (X3 s)) (x6 : Int) (G : St) : SS (MHo_feed P W) (lk X3 some) 3 [(0, aR 100), (1, aI x1), (2, aI x2), (3, aI x3), (4, aI x4), (5, aI x5), (6, aI x6)] [] G (Ho_feed_s3 x1 x2 x3 x4 x5 x6 G) := by
  refine r_iload 5 6 dX1_feed_3 rfl rfl ?_
  refine r_iconst 6 4 dX1_feed_5 rfl rfl ?_
  refine r_icmp_ge 98 9 dX1_feed_6 rfl rfl ?_ ?_
  · refine SS.ex ?_
    exact r_return dX1_feed_98 rfl
  · refine r_bipush 11 24 dX1_feed_9 rfl rfl ?_
    refine r_bipush 13 8 dX1_feed_11 rfl rfl ?_
    refine r_iload 15 6 dX1_feed_13 rfl rfl ?_
    refine r_imul 16 dX1_feed_15 rfl ?_
    refine r_isub 17 dX1_feed_16 rfl ?_
    refine r_istore 19 [(7, aI (24 - (8 * x6))), (0, aR 100), (1, aI x1), (2, aI x2), (3, aI x3), (4, aI x4), (5, aI x5), (6, aI x6)] dX1_feed_17 rfl rfl rfl ?_
    refine r_aload_n 20 1 dX1_feed_19 rfl rfl rfl ?_
    refine r_get 23 (aR 101) dX1_feed_20 fkX1_9 (fun _ => dsC_100 P W _) nn100 rfl rfl ?_
    refine r_iload 25 7 dX1_feed_23 rfl rfl ?_
    refine r_iload_n 26 2 dX1_feed_25 rfl rfl rfl ?_
    refine r_iload 28 0 dX1_feed_26 rfl rfl ?_
    refine r_ishr 29 dX1_feed_28 rfl ?_
    refine r_i2b 30 dX1_feed_29 rfl ?_
    refine r_bast 31 dX1_feed_30 (fun _ _ _ => dsC_101 P W _) (fun _ _ => nn101) rfl ?_
    refine ss_tk (fun G1 => ?_)
    refine r_aload_n 32 1 dX1_feed_31 rfl rfl rfl ?_
    refine r_get 35 (aR 101) dX1_feed_32 fkX1_9 (fun _ => dsC_100 P W _) nn100 rfl rfl ?_
    refine r_iconst 36 4 dX1_feed_35 rfl rfl ?_
    refine r_iload 38 7 dX1_feed_36 rfl rfl ?_
    refine r_iadd 39 dX1_feed_38 rfl ?_
    refine r_iload_n 40 3 dX1_feed_39 rfl rfl rfl ?_
    refine r_iload 42 0 dX1_feed_40 rfl rfl ?_
    refine r_ishr 43 dX1_feed_42 rfl ?_
    refine r_i2b 44 dX1_feed_43 rfl ?_
    refine r_bast 45 dX1_feed_44 (fun _ _ _ => dsC_101 P W _) (fun _ _ => nn101) rfl ?_
    refine ss_tk (fun G2 => ?_)
    refine r_aload_n 46 1 dX1_feed_45 rfl rfl rfl ?_
    refine r_get 49 (aR 101) dX1_feed_46 fkX1_9 (fun _ => dsC_100 P W _) nn100 rfl rfl ?_
    refine r_bipush 51 8 dX1_feed_49 rfl rfl ?_
    refine r_iload 53 7 dX1_feed_51 rfl rfl ?_
    refine r_iadd 54 dX1_feed_53 rfl ?_
    refine r_iload_n 55 4 dX1_feed_54 rfl rfl rfl ?_
    refine r_iload 57 0 dX1_feed_55 rfl rfl ?_
    refine r_ishr 58 dX1_feed_57 rfl ?_
    refine r_i2b 59 dX1_feed_58 rfl ?_
    refine r_bast 60 dX1_feed_59 (fun _ _ _ => dsC_101 P W _) (fun _ _ => nn101) rfl ?_
    refine ss_tk (fun G3 => ?_)
    refine r_aload_n 61 1 dX1_feed_60 rfl rfl rfl ?_
    refine r_get 64 (aR 101) dX1_feed_61 fkX1_9 (fun _ => dsC_100 P W _) nn100 rfl rfl ?_
    refine r_bipush 66 12 dX1_feed_64 rfl rfl ?_
    refine r_iload 68 7 dX1_feed_66 rfl rfl ?_
    refine r_iadd 69 dX1_feed_68 rfl ?_
    refine r_iload 71 5 dX1_feed_69 rfl rfl ?_
    refine r_iload 73 0 dX1_feed_71 rfl rfl ?_
    refine r_ishr 74 dX1_feed_73 rfl ?_
    refine r_i2b 75 dX1_feed_74 rfl ?_
    refine r_bast 76 dX1_feed_75 (fun _ _ _ => dsC_101 P W _) (fun _ _ => nn101) rfl ?_
    refine ss_tk (fun G4 => ?_)
    refine r_aload_n 77 1 dX1_feed_76 rfl rfl rfl ?_
    refine r_get 80 (aR 101) dX1_feed_77 fkX1_9 (fun _ => dsC_100 P W _) nn100 rfl rfl ?_
    refine r_bipush 82 16 dX1_feed_80 rfl rfl ?_
    refine r_iload 84 7 dX1_feed_82 rfl rfl ?_
    refine r_iadd 85 dX1_feed_84 rfl ?_
    refine r_iload 87 6 dX1_feed_85 rfl rfl ?_
    refine r_iload 89 0 dX1_feed_87 rfl rfl ?_
    refine r_ishr 90 dX1_feed_89 rfl ?_
    refine r_i2b 91 dX1_feed_90 rfl ?_
    refine r_bast 92 dX1_feed_91 (fun _ _ _ => dsC_101 P W _) (fun _ _ => nn101) rfl ?_
    refine ss_tk (fun G5 => ?_)
    refine r_iinc 95 [(6, aI (x6 + 1)), (7, aI (24 - (8 * x6))), (0, aR 100), (1, aI x1), (2, aI x2), (3, aI x3), (4, aI x4), (5, aI x5)] 7 dX1_feed_92 rfl rfl rfl rfl ?_
    refine r_goto 3 dX1_feed_95 rfl ?_
    refine r_to [2, 3, 4, 5, 6, 7, 0] [(0, aR 100), (1, aI x1), (2, aI x2), (3, aI x3), (4, aI x4), (5, aI x5), (6, aI (x6 + 1))] rfl ?_
    exact SS.back (hX3 (x6 + 1, G5))
theorem sl_Ho_feed_3 (P W : Int) (x1 : Int) (x2 : Int) (x3 : Int) (x4 : Int) (x5 : Int) (x6 : Int) (G : St) : SS (MHo_feed P W) some 3 [(0, aR 100), (1, aI x1), (2, aI x2), (3, aI x3), (4, aI x4), (5, aI x5), (6, aI x6)] [] G (Ho_feed_l3 x1 x2 x3 x4 x5 x6 G) := by
  exact SS.loop (σ := Int × St) (fun s => [(0, aR 100), (1, aI x1), (2, aI x2), (3, aI x3), (4, aI x4), (5, aI x5), (6, aI (s.1))]) (fun s => s.2) (fun s => Ho_feed_s3 x1 x2 x3 x4 x5 s.1 s.2) (fun X3 hX3 s => s_Ho_feed_s3 P W x1 x2 x3 x4 x5  X3 hX3 s.1 s.2) (x6, G)
theorem s_Ho_feed (P W : Int) (x1 : Int) (x2 : Int) (x3 : Int) (x4 : Int) (x5 : Int) (G : St) : SS (MHo_feed P W) some 0 [(0, aR 100), (1, aI x1), (2, aI x2), (3, aI x3), (4, aI x4), (5, aI x5)] [] G (Ho_feed x1 x2 x3 x4 x5 G) := by
  refine r_iconst 1 0 dX1_feed_0 rfl rfl ?_
  refine r_istore 3 [(6, aI 0), (0, aR 100), (1, aI x1), (2, aI x2), (3, aI x3), (4, aI x4), (5, aI x5)] dX1_feed_1 rfl rfl rfl ?_
  refine r_to [1, 2, 3, 4, 5, 6, 0] [(0, aR 100), (1, aI x1), (2, aI x2), (3, aI x3), (4, aI x4), (5, aI x5), (6, aI 0)] rfl ?_
  exact sl_Ho_feed_3 P W x1 x2 x3 x4 x5 0 G
theorem c_Ho_feed (P W : Int) (x1 : Int) (x2 : Int) (x3 : Int) (x4 : Int) (x5 : Int) (G : St) : MG (MHo_feed P W) [aR 100, aI x1, aI x2, aI x3, aI x4, aI x5] G (Ho_feed x1 x2 x3 x4 x5 G) := MG.of plX1 (Nat.le_of_ble_eq_true rfl) (s_Ho_feed P W x1 x2 x3 x4 x5 G)
theorem s_Ho_end_s112 (P W : Int) (X112 : Int × St → Option (Int × St)) (hX112 : ∀ s, So (MHo_end P W) 112 [(0, aR 100), (2, aI (s.1))] [] s.2 (X112 s)) (x2 : Int) (G : St) : SS (MHo_end P W) (lk X112 some) 112 [(0, aR 100), (2, aI x2)] [] G (Ho_end_s112 x2 G) := by
  refine r_iload_n 113 1 dX1_end_112 rfl rfl rfl ?_
  refine r_bipush 115 20 dX1_end_113 rfl rfl ?_
  refine r_icmp_ge 131 118 dX1_end_115 rfl rfl ?_ ?_
  · refine SS.ex ?_
    refine r_aload_n 132 0 dX1_end_131 rfl rfl rfl ?_
    refine r_get 135 (aI (G 100 4)) dX1_end_132 fkX1_141 (fun _ => dsC_100 P W _) nn100 rfl rfl ?_
    exact r_ireturn dX1_end_135 rfl
  · refine r_aload_n 119 0 dX1_end_118 rfl rfl rfl ?_
    refine r_get 122 (aR 101) dX1_end_119 fkX1_9 (fun _ => dsC_100 P W _) nn100 rfl rfl ?_
    refine r_iload_n 123 1 dX1_end_122 rfl rfl rfl ?_
    refine r_iconst 124 0 dX1_end_123 rfl rfl ?_
    refine r_bast 125 dX1_end_124 (fun _ _ _ => dsC_101 P W _) (fun _ _ => nn101) rfl ?_
    refine ss_tk (fun G3 => ?_)
    refine r_iinc 128 [(2, aI (x2 + 1)), (0, aR 100)] 1 dX1_end_125 rfl rfl rfl rfl ?_
    refine r_goto 112 dX1_end_128 rfl ?_
    refine r_to [1, 0] [(0, aR 100), (2, aI (x2 + 1))] rfl ?_
    exact SS.back (hX112 (x2 + 1, G3))
theorem sl_Ho_end_112 (P W : Int) (x2 : Int) (G : St) : SS (MHo_end P W) some 112 [(0, aR 100), (2, aI x2)] [] G (Ho_end_l112 x2 G) := by
  exact SS.loop (σ := Int × St) (fun s => [(0, aR 100), (2, aI (s.1))]) (fun s => s.2) (fun s => Ho_end_s112 s.1 s.2) (fun X112 hX112 s => s_Ho_end_s112 P W   X112 hX112 s.1 s.2) (x2, G)
theorem s_Ho_end_b77 (P W : Int) (x1 : Int) (X26 : Int × St → Option (Int × St)) (hX26 : ∀ s, So (MHo_end P W) 26 [(0, aR 100), (1, aI x1), (2, aI (s.1))] [] s.2 (X26 s)) (x2 : Int) (G : St) : SS (MHo_end P W) (lk X26 some) 77 [(0, aR 100), (1, aI x1), (2, aI x2)] [] G (Ho_end_b77 x1 x2 G) := by
  refine r_iinc 80 [(2, aI (x2 + 1)), (0, aR 100), (1, aI x1)] 2 dX1_end_77 rfl rfl rfl rfl ?_
  refine r_goto 26 dX1_end_80 rfl ?_
  refine r_to [1, 2, 0] [(0, aR 100), (1, aI x1), (2, aI (x2 + 1))] rfl ?_
  exact SS.back (hX26 (x2 + 1, G))
theorem s_Ho_end_b53 (P W : Int) (x1 : Int) (X26 : Int × St → Option (Int × St)) (hX26 : ∀ s, So (MHo_end P W) 26 [(0, aR 100), (1, aI x1), (2, aI (s.1))] [] s.2 (X26 s)) (x2 : Int) (G : St) : SS (MHo_end P W) (lk X26 some) 53 [(0, aR 100), (1, aI x1), (2, aI x2)] [] G (Ho_end_b53 x1 x2 G) := by
  refine r_aload_n 54 0 dX1_end_53 rfl rfl rfl ?_
  refine r_get 57 (aR 101) dX1_end_54 fkX1_9 (fun _ => dsC_100 P W _) nn100 rfl rfl ?_
  refine r_iload_n 58 2 dX1_end_57 rfl rfl rfl ?_
  refine r_bald 59 dX1_end_58 (fun _ _ _ => dsC_101 P W _) (fun _ _ => nn101) rfl ?_
  refine r_bipush 61 9 dX1_end_59 rfl rfl ?_
  refine r_icmp_eq 77 64 dX1_end_61 rfl rfl ?_ ?_
  · exact s_Ho_end_b77 P W x1 X26 hX26 x2 G
  · refine r_aload_n 65 0 dX1_end_64 rfl rfl rfl ?_
    refine r_get 68 (aR 101) dX1_end_65 fkX1_9 (fun _ => dsC_100 P W _) nn100 rfl rfl ?_
    refine r_iload_n 69 2 dX1_end_68 rfl rfl rfl ?_
    refine r_bald 70 dX1_end_69 (fun _ _ _ => dsC_101 P W _) (fun _ _ => nn101) rfl ?_
    refine r_bipush 72 10 dX1_end_70 rfl rfl ?_
    refine r_icmp_eq 77 75 dX1_end_72 rfl rfl ?_ ?_
    · exact s_Ho_end_b77 P W x1 X26 hX26 x2 G
    · refine SS.ex ?_
      refine r_iconst 76 (-1) dX1_end_75 rfl rfl ?_
      exact r_ireturn dX1_end_76 rfl
theorem s_Ho_end_s26 (P W : Int) (x1 : Int) (X26 : Int × St → Option (Int × St)) (hX26 : ∀ s, So (MHo_end P W) 26 [(0, aR 100), (1, aI x1), (2, aI (s.1))] [] s.2 (X26 s)) (x2 : Int) (G : St) : SS (MHo_end P W) (lk X26 some) 26 [(0, aR 100), (1, aI x1), (2, aI x2)] [] G (Ho_end_s26 x1 x2 G) := by
  refine r_iload_n 27 2 dX1_end_26 rfl rfl rfl ?_
  refine r_iload_n 28 1 dX1_end_27 rfl rfl rfl ?_
  refine r_icmp_ge 83 31 dX1_end_28 rfl rfl ?_ ?_
  · refine SS.ex ?_
    refine r_aload_n 84 0 dX1_end_83 rfl rfl rfl ?_
    refine r_get 87 (aR 101) dX1_end_84 fkX1_9 (fun _ => dsC_100 P W _) nn100 rfl rfl ?_
    refine r_iconst 88 0 dX1_end_87 rfl rfl ?_
    refine r_aload_n 89 0 dX1_end_88 rfl rfl rfl ?_
    refine r_get 92 (aR 102) dX1_end_89 fkX1_13 (fun _ => dsC_100 P W _) nn100 rfl rfl ?_
    refine r_aload_n 93 0 dX1_end_92 rfl rfl rfl ?_
    refine r_get 96 (aI (G 100 4)) dX1_end_93 fkX1_141 (fun _ => dsC_100 P W _) nn100 rfl rfl ?_
    refine r_iload_n 97 1 dX1_end_96 rfl rfl rfl ?_
    refine r_acopy 100 1 dX1_end_97 q931 (Or.inr rfl) (fun _ _ => dsC_101 P W _) (fun _ => nn101) (fun _ _ => dsC_102 P W _) (fun _ => nn102) (Nat.le_of_ble_eq_true rfl) (Nat.le_of_ble_eq_true rfl) rfl rfl ?_
    refine ss_tk (fun G1 => ?_)
    refine r_aload_n 101 0 dX1_end_100 rfl rfl rfl ?_
    refine r_dup 102 dX1_end_101 rfl rfl ?_
    refine r_get 105 (aI (G1 100 4)) dX1_end_102 fkX1_141 (fun _ => dsC_100 P W _) nn100 rfl rfl ?_
    refine r_iload_n 106 1 dX1_end_105 rfl rfl rfl ?_
    refine r_iadd 107 dX1_end_106 rfl ?_
    refine r_putI 110 dX1_end_107 fkX1_141 (fun _ => dsC_100 P W _) nn100 rfl rfl ?_
    refine ss_tk (fun G2 => ?_)
    refine r_iconst 111 0 dX1_end_110 rfl rfl ?_
    refine r_istore_n 112 [(2, aI 0), (0, aR 100), (1, aI x1)] dX1_end_111 rfl rfl rfl rfl ?_
    refine r_to [1, 0] [(0, aR 100), (2, aI 0)] rfl ?_
    exact sl_Ho_end_112 P W 0 G2
  · refine r_aload_n 32 0 dX1_end_31 rfl rfl rfl ?_
    refine r_get 35 (aR 101) dX1_end_32 fkX1_9 (fun _ => dsC_100 P W _) nn100 rfl rfl ?_
    refine r_iload_n 36 2 dX1_end_35 rfl rfl rfl ?_
    refine r_bald 37 dX1_end_36 (fun _ _ _ => dsC_101 P W _) (fun _ _ => nn101) rfl ?_
    refine r_bipush 39 32 dX1_end_37 rfl rfl ?_
    refine r_icmp_lt 53 42 dX1_end_39 rfl rfl ?_ ?_
    · exact s_Ho_end_b53 P W x1 X26 hX26 x2 G
    · refine r_aload_n 43 0 dX1_end_42 rfl rfl rfl ?_
      refine r_get 46 (aR 101) dX1_end_43 fkX1_9 (fun _ => dsC_100 P W _) nn100 rfl rfl ?_
      refine r_iload_n 47 2 dX1_end_46 rfl rfl rfl ?_
      refine r_bald 48 dX1_end_47 (fun _ _ _ => dsC_101 P W _) (fun _ _ => nn101) rfl ?_
      refine r_bipush 50 126 dX1_end_48 rfl rfl ?_
      refine r_icmp_le 77 53 dX1_end_50 rfl rfl ?_ ?_
      · exact s_Ho_end_b77 P W x1 X26 hX26 x2 G
      · exact s_Ho_end_b53 P W x1 X26 hX26 x2 G
theorem sl_Ho_end_26 (P W : Int) (x1 : Int) (x2 : Int) (G : St) : SS (MHo_end P W) some 26 [(0, aR 100), (1, aI x1), (2, aI x2)] [] G (Ho_end_l26 x1 x2 G) := by
  exact SS.loop (σ := Int × St) (fun s => [(0, aR 100), (1, aI x1), (2, aI (s.1))]) (fun s => s.2) (fun s => Ho_end_s26 x1 s.1 s.2) (fun X26 hX26 s => s_Ho_end_s26 P W x1  X26 hX26 s.1 s.2) (x2, G)
theorem s_Ho_end (P W : Int) (x1 : Int) (G : St) : SS (MHo_end P W) some 0 [(0, aR 100), (1, aI x1)] [] G (Ho_end x1 G) := by
  refine r_iload_n 1 1 dX1_end_0 rfl rfl rfl ?_
  refine r_if_lt 22 4 dX1_end_1 rfl rfl ?_ ?_
  · refine r_iconst 23 (-1) dX1_end_22 rfl rfl ?_
    exact r_ireturn dX1_end_23 rfl
  · refine r_iload_n 5 1 dX1_end_4 rfl rfl rfl ?_
    refine r_bipush 7 20 dX1_end_5 rfl rfl ?_
    refine r_icmp_gt 22 10 dX1_end_7 rfl rfl ?_ ?_
    · refine r_iconst 23 (-1) dX1_end_22 rfl rfl ?_
      exact r_ireturn dX1_end_23 rfl
    · refine r_aload_n 11 0 dX1_end_10 rfl rfl rfl ?_
      refine r_get 14 (aI (G 100 4)) dX1_end_11 fkX1_141 (fun _ => dsC_100 P W _) nn100 rfl rfl ?_
      refine r_iload_n 15 1 dX1_end_14 rfl rfl rfl ?_
      refine r_iadd 16 dX1_end_15 rfl ?_
      refine r_sipush 19 4000 dX1_end_16 rfl rfl ?_
      refine r_icmp_le 24 22 dX1_end_19 rfl rfl ?_ ?_
      · refine r_iconst 25 0 dX1_end_24 rfl rfl ?_
        refine r_istore_n 26 [(2, aI 0), (0, aR 100), (1, aI x1)] dX1_end_25 rfl rfl rfl rfl ?_
        refine r_to [1, 2, 0] [(0, aR 100), (1, aI x1), (2, aI 0)] rfl ?_
        exact sl_Ho_end_26 P W x1 0 G
      · refine r_iconst 23 (-1) dX1_end_22 rfl rfl ?_
        exact r_ireturn dX1_end_23 rfl
theorem c_Ho_end (P W : Int) (x1 : Int) (G : St) : MG (MHo_end P W) [aR 100, aI x1] G (Ho_end x1 G) := MG.of plX1 (Nat.le_of_ble_eq_true rfl) (s_Ho_end P W x1 G)
theorem s_Bd_constant_b32 (P W : Int) (x2 : Int) (X3 : Int × St → Option (Int × St)) (hX3 : ∀ s, So (MBd_constant P W) 3 [(0, aR 180), (1, aR 205), (2, aL x2), (4, aI (s.1))] [] s.2 (X3 s)) (x4 : Int) (s0 : Int) (s1 : Int) (G : St) : SS (MBd_constant P W) (lk X3 some) 32 [(0, aR 180), (1, aR 205), (2, aL x2), (4, aI x4)] [aI s0, aI s1, aR 205] G (Bd_constant_b32 P W x2 x4 s0 s1 G) := by
  refine r_iast 33 dX11_constant_32 (fun _ _ _ => dsC_205 P W _) (fun _ _ => nn205) rfl ?_
  refine ss_tk (fun G1 => ?_)
  refine r_iinc 36 [(4, aI (x4 + 1)), (0, aR 180), (1, aR 205), (2, aL x2)] 3 dX11_constant_33 rfl rfl rfl rfl ?_
  refine r_goto 3 dX11_constant_36 rfl ?_
  refine r_to [1, 2, 3, 0] [(0, aR 180), (1, aR 205), (2, aL x2), (4, aI (x4 + 1))] rfl ?_
  exact SS.back (hX3 (x4 + 1, G1))
theorem s_Bd_constant_s3 (P W : Int) (x2 : Int) (X3 : Int × St → Option (Int × St)) (hX3 : ∀ s, So (MBd_constant P W) 3 [(0, aR 180), (1, aR 205), (2, aL x2), (4, aI (s.1))] [] s.2 (X3 s)) (x4 : Int) (G : St) : SS (MBd_constant P W) (lk X3 some) 3 [(0, aR 180), (1, aR 205), (2, aL x2), (4, aI x4)] [] G (Bd_constant_s3 P W x2 x4 G) := by
  refine r_iload 5 3 dX11_constant_3 rfl rfl ?_
  refine r_aload_n 6 0 dX11_constant_5 rfl rfl rfl ?_
  refine r_get 9 (aI W) dX11_constant_6 fkX11_60 (fun _ => dsC_180 P W _) nn180 rfl rfl ?_
  refine r_icmp_ge 39 12 dX11_constant_9 rfl rfl ?_ ?_
  · refine SS.ex ?_
    exact r_return dX11_constant_39 rfl
  · refine r_aload_n 13 1 dX11_constant_12 rfl rfl rfl ?_
    refine r_iload 15 3 dX11_constant_13 rfl rfl ?_
    refine r_lload_n 16 2 dX11_constant_15 rfl rfl rfl ?_
    refine r_iload 18 3 dX11_constant_16 rfl rfl ?_
    refine r_lshr 19 dX11_constant_18 rfl ?_
    refine r_lconst 20 1 dX11_constant_19 rfl rfl rfl ?_
    refine r_land 21 dX11_constant_20 rfl ?_
    refine r_lconst 22 1 dX11_constant_21 rfl rfl rfl ?_
    refine SS.phi (fun VV_ => Bd_constant_b32 P W x2 x4 VV_ x4 G) ?_
    refine r_lif_ne 23 30 26 dX11_constant_22 rfl dX11_constant_23 rfl rfl ?_ ?_
    · refine r_bipush 32 (-2) dX11_constant_30 rfl rfl ?_
      exact s_Bd_constant_b32 P W x2 X3 hX3 x4 (-2) x4 G
    · refine r_iconst 27 (-1) dX11_constant_26 rfl rfl ?_
      refine r_goto 32 dX11_constant_27 rfl ?_
      exact s_Bd_constant_b32 P W x2 X3 hX3 x4 (-1) x4 G
theorem sl_Bd_constant_3 (P W : Int) (x2 : Int) (x4 : Int) (G : St) : SS (MBd_constant P W) some 3 [(0, aR 180), (1, aR 205), (2, aL x2), (4, aI x4)] [] G (Bd_constant_l3 P W x2 x4 G) := by
  exact SS.loop (σ := Int × St) (fun s => [(0, aR 180), (1, aR 205), (2, aL x2), (4, aI (s.1))]) (fun s => s.2) (fun s => Bd_constant_s3 P W x2 s.1 s.2) (fun X3 hX3 s => s_Bd_constant_s3 P W x2  X3 hX3 s.1 s.2) (x4, G)
theorem s_Bd_constant (P W : Int) (x2 : Int) (G : St) : SS (MBd_constant P W) some 0 [(0, aR 180), (1, aR 205), (2, aL x2)] [] G (Bd_constant P W x2 G) := by
  refine r_iconst 1 0 dX11_constant_0 rfl rfl ?_
  refine r_istore 3 [(4, aI 0), (0, aR 180), (1, aR 205), (2, aL x2)] dX11_constant_1 rfl rfl rfl ?_
  refine r_to [1, 2, 3, 0] [(0, aR 180), (1, aR 205), (2, aL x2), (4, aI 0)] rfl ?_
  exact sl_Bd_constant_3 P W x2 0 G
theorem c_Bd_constant (P W : Int) (x2 : Int) (G : St) : MG (MBd_constant P W) [aR 180, aR 205, aL x2] G (Bd_constant P W x2 G) := MG.of plX11 (Nat.le_of_ble_eq_true rfl) (s_Bd_constant P W x2 G)
theorem s_Ft_set (P W : Int) (x1 : Int) (x2 : Int) (G : St) : SS (MFt_set P W) some 0 [(0, aR 130), (1, aI x1), (2, aI x2)] [] G (Ft_set x1 x2 G) := by
  refine r_aload_n 1 0 dX4_set_0 rfl rfl rfl ?_
  refine r_get 4 (aI (G 130 0)) dX4_set_1 fkX4_9 (fun _ => dsC_130 P W _) nn130 rfl rfl ?_
  refine r_if_eq 8 7 dX4_set_4 rfl rfl ?_ ?_
  · refine r_aload_n 9 0 dX4_set_8 rfl rfl rfl ?_
    refine r_iload_n 10 1 dX4_set_9 rfl rfl rfl ?_
    refine r_putI 13 dX4_set_10 fkX4_9 (fun _ => dsC_130 P W _) nn130 rfl rfl ?_
    refine ss_tk (fun G1 => ?_)
    refine r_aload_n 14 0 dX4_set_13 rfl rfl rfl ?_
    refine r_iload_n 15 2 dX4_set_14 rfl rfl rfl ?_
    refine r_putI 18 dX4_set_15 fkX4_15 (fun _ => dsC_130 P W _) nn130 rfl rfl ?_
    refine ss_tk (fun G2 => ?_)
    exact r_return dX4_set_18 rfl
  · exact r_return dX4_set_7 rfl
theorem c_Ft_set (P W : Int) (x1 : Int) (x2 : Int) (G : St) : MG (MFt_set P W) [aR 130, aI x1, aI x2] G (Ft_set x1 x2 G) := MG.of plX4 (Nat.le_of_ble_eq_true rfl) (s_Ft_set P W x1 x2 G)
theorem s_Bd_count_b22 (P W : Int) (G : St) : SS (MBd_count P W) some 22 [(0, aR 180)] [] G (Bd_count_b22 G) := by
  refine r_aload_n 23 0 dX11_count_22 rfl rfl rfl ?_
  refine r_dup 24 dX11_count_23 rfl rfl ?_
  refine r_get 27 (aI (G 180 8)) dX11_count_24 fkX11_112 (fun _ => dsC_180 P W _) nn180 rfl rfl ?_
  refine r_iconst 28 1 dX11_count_27 rfl rfl ?_
  refine r_iadd 29 dX11_count_28 rfl ?_
  refine r_putI 32 dX11_count_29 fkX11_112 (fun _ => dsC_180 P W _) nn180 rfl rfl ?_
  refine ss_tk (fun G1 => ?_)
  exact r_return dX11_count_32 rfl
theorem s_Bd_count (P W : Int) (G : St) : SS (MBd_count P W) some 0 [(0, aR 180)] [] G (Bd_count G) := by
  refine r_aload_n 1 0 dX11_count_0 rfl rfl rfl ?_
  refine r_get 4 (aI (G 180 8)) dX11_count_1 fkX11_112 (fun _ => dsC_180 P W _) nn180 rfl rfl ?_
  refine r_ldc 6 100000 dX11_count_4 q1543 (by decide) rfl rfl ?_
  refine r_icmp_ne 22 9 dX11_count_6 rfl rfl ?_ ?_
  · exact s_Bd_count_b22 P W G
  · refine r_aload_n 10 0 dX11_count_9 rfl rfl rfl ?_
    refine r_get 13 (aR 130) dX11_count_10 fkX11_68 (fun _ => dsC_180 P W _) nn180 rfl rfl ?_
    refine r_bipush 15 8 dX11_count_13 rfl rfl ?_
    refine r_aload_n 16 0 dX11_count_15 rfl rfl rfl ?_
    refine r_get 19 (aI (G 180 9)) dX11_count_16 fkX11_115 (fun _ => dsC_180 P W _) nn180 rfl rfl ?_
    refine r_callvV 22 (Mc := MFt_set P W) (o := 130) (as := [aI 8, aI (G 180 9)]) (st := []) dX11_count_19 rfl (c_Ft_set P W 8 (G 180 9) G) lkX11_157 (cmFt_set P W) rfl rfl rfl (fun _ => dsC_130 P W _) nn130 rfl (Nat.le_of_ble_eq_true rfl) (Nat.le_of_ble_eq_true rfl) (fun _ => rfl) rfl (fun z2 G3 => ?_)
    exact s_Bd_count_b22 P W G3
theorem c_Bd_count (P W : Int) (G : St) : MG (MBd_count P W) [aR 180] G (Bd_count G) := MG.of plX11 (Nat.le_of_ble_eq_true rfl) (s_Bd_count P W G)
theorem s_Bd_bits (P W : Int) (x1 : Int) (G : St) : SS (MBd_bits P W) some 0 [(0, aR 180), (1, aI x1)] [] G (Bd_bits P W x1 G) := by
  refine r_iload_n 1 1 dX11_bits_0 rfl rfl rfl ?_
  refine r_iconst 2 1 dX11_bits_1 rfl rfl ?_
  refine SS.phi (fun VV_ => some (VV_, G)) ?_
  refine r_icmp_ne 9 5 dX11_bits_2 rfl rfl ?_ ?_
  · refine r_aload_n 10 0 dX11_bits_9 rfl rfl rfl ?_
    refine r_get 13 (aI W) dX11_bits_10 fkX11_60 (fun _ => dsC_180 P W _) nn180 rfl rfl ?_
    exact r_ireturn dX11_bits_13 rfl
  · refine r_iconst 6 1 dX11_bits_5 rfl rfl ?_
    refine r_goto 13 dX11_bits_6 rfl ?_
    exact r_ireturn dX11_bits_13 rfl
theorem c_Bd_bits (P W : Int) (x1 : Int) (G : St) : MG (MBd_bits P W) [aR 180, aI x1] G (Bd_bits P W x1 G) := MG.of plX11 (Nat.le_of_ble_eq_true rfl) (s_Bd_bits P W x1 G)
theorem s_Bd_inputWord_s2 (P W : Int) (x1 : Int) (x2 : Int) (X2 : Int × St → Option (Int × St)) (hX2 : ∀ s, So (MBd_inputWord P W) 2 [(0, aR 180), (1, aI x1), (2, aI x2), (3, aI (s.1))] [] s.2 (X2 s)) (x3 : Int) (G : St) : SS (MBd_inputWord P W) (lk X2 some) 2 [(0, aR 180), (1, aI x1), (2, aI x2), (3, aI x3)] [] G (Bd_inputWord_s2 P W x1 x2 x3 G) := by
  refine r_iload_n 3 3 dX11_inputWord_2 rfl rfl rfl ?_
  refine r_iload_n 4 2 dX11_inputWord_3 rfl rfl rfl ?_
  refine r_icmp_ge 29 7 dX11_inputWord_4 rfl rfl ?_ ?_
  · refine SS.ex ?_
    exact r_return dX11_inputWord_29 rfl
  · refine r_aload_n 8 0 dX11_inputWord_7 rfl rfl rfl ?_
    refine r_get 11 (aR 205) dX11_inputWord_8 fkX11_94 (fun _ => dsC_180 P W _) nn180 rfl rfl ?_
    refine r_iload_n 12 3 dX11_inputWord_11 rfl rfl rfl ?_
    refine r_iconst 13 2 dX11_inputWord_12 rfl rfl ?_
    refine r_aload_n 14 0 dX11_inputWord_13 rfl rfl rfl ?_
    refine r_get 17 (aR 182) dX11_inputWord_14 fkX11_9 (fun _ => dsC_180 P W _) nn180 rfl rfl ?_
    refine r_iload_n 18 1 dX11_inputWord_17 rfl rfl rfl ?_
    refine r_iald 19 dX11_inputWord_18 (fun _ _ _ => dsC_182 P W _) (fun _ _ => nn182) rfl ?_
    refine r_iload_n 20 3 dX11_inputWord_19 rfl rfl rfl ?_
    refine r_iadd 21 dX11_inputWord_20 rfl ?_
    refine r_imul 22 dX11_inputWord_21 rfl ?_
    refine r_iast 23 dX11_inputWord_22 (fun _ _ _ => dsC_205 P W _) (fun _ _ => nn205) rfl ?_
    refine ss_tk (fun G1 => ?_)
    refine r_iinc 26 [(3, aI (x3 + 1)), (0, aR 180), (1, aI x1), (2, aI x2)] 3 dX11_inputWord_23 rfl rfl rfl rfl ?_
    refine r_goto 2 dX11_inputWord_26 rfl ?_
    refine r_to [1, 2, 3, 0] [(0, aR 180), (1, aI x1), (2, aI x2), (3, aI (x3 + 1))] rfl ?_
    exact SS.back (hX2 (x3 + 1, G1))
theorem sl_Bd_inputWord_2 (P W : Int) (x1 : Int) (x2 : Int) (x3 : Int) (G : St) : SS (MBd_inputWord P W) some 2 [(0, aR 180), (1, aI x1), (2, aI x2), (3, aI x3)] [] G (Bd_inputWord_l2 P W x1 x2 x3 G) := by
  exact SS.loop (σ := Int × St) (fun s => [(0, aR 180), (1, aI x1), (2, aI x2), (3, aI (s.1))]) (fun s => s.2) (fun s => Bd_inputWord_s2 P W x1 x2 s.1 s.2) (fun X2 hX2 s => s_Bd_inputWord_s2 P W x1 x2  X2 hX2 s.1 s.2) (x3, G)
theorem s_Bd_inputWord (P W : Int) (x1 : Int) (x2 : Int) (G : St) : SS (MBd_inputWord P W) some 0 [(0, aR 180), (1, aI x1), (2, aI x2)] [] G (Bd_inputWord P W x1 x2 G) := by
  refine r_iconst 1 0 dX11_inputWord_0 rfl rfl ?_
  refine r_istore_n 2 [(3, aI 0), (0, aR 180), (1, aI x1), (2, aI x2)] dX11_inputWord_1 rfl rfl rfl rfl ?_
  refine r_to [1, 2, 3, 0] [(0, aR 180), (1, aI x1), (2, aI x2), (3, aI 0)] rfl ?_
  exact sl_Bd_inputWord_2 P W x1 x2 0 G
theorem c_Bd_inputWord (P W : Int) (x1 : Int) (x2 : Int) (G : St) : MG (MBd_inputWord P W) [aR 180, aI x1, aI x2] G (Bd_inputWord P W x1 x2 G) := MG.of plX11 (Nat.le_of_ble_eq_true rfl) (s_Bd_inputWord P W x1 x2 G)
theorem s_Bd_fetch (P W : Int) (x1 : Int) (x2 : Int) (x3 : Int) (G : St) : SS (MBd_fetch P W) some 0 [(0, aR 180), (1, aI x1), (2, aI x2), (3, aI x3)] [] G (Bd_fetch P W x1 x2 x3 G) := by
  refine r_iload_n 1 1 dX11_fetch_0 rfl rfl rfl ?_
  refine r_if_eq 13 4 dX11_fetch_1 rfl rfl ?_ ?_
  · refine r_aload_n 14 0 dX11_fetch_13 rfl rfl rfl ?_
    refine r_get 17 (aR 185) dX11_fetch_14 fkX11_88 (fun _ => dsC_180 P W _) nn180 rfl rfl ?_
    refine r_aload_n 18 0 dX11_fetch_17 rfl rfl rfl ?_
    refine r_get 21 (aI W) dX11_fetch_18 fkX11_60 (fun _ => dsC_180 P W _) nn180 rfl rfl ?_
    refine r_iload_n 22 2 dX11_fetch_21 rfl rfl rfl ?_
    refine r_imul 23 dX11_fetch_22 rfl ?_
    refine r_aload_n 24 0 dX11_fetch_23 rfl rfl rfl ?_
    refine r_get 27 (aR 205) dX11_fetch_24 fkX11_94 (fun _ => dsC_180 P W _) nn180 rfl rfl ?_
    refine r_iconst 28 0 dX11_fetch_27 rfl rfl ?_
    refine r_iload_n 29 3 dX11_fetch_28 rfl rfl rfl ?_
    refine r_acopy 32 0 dX11_fetch_29 q1475 (Or.inl rfl) (fun _ _ => dsC_185 P W _) (fun _ => nn185) (fun _ _ => dsC_205 P W _) (fun _ => nn205) (Nat.le_of_ble_eq_true rfl) (Nat.le_of_ble_eq_true rfl) rfl rfl ?_
    refine ss_tk (fun G1 => ?_)
    exact r_return dX11_fetch_32 rfl
  · refine r_aload_n 5 0 dX11_fetch_4 rfl rfl rfl ?_
    refine r_iload_n 6 2 dX11_fetch_5 rfl rfl rfl ?_
    refine r_iload_n 7 3 dX11_fetch_6 rfl rfl rfl ?_
    refine r_callvV 10 (Mc := MBd_inputWord P W) (o := 180) (as := [aI x2, aI x3]) (st := []) dX11_fetch_7 rfl (c_Bd_inputWord P W x2 x3 G) lkX11_290 (cmBd_inputWord P W) rfl rfl rfl (fun _ => dsC_180 P W _) nn180 rfl (Nat.le_of_ble_eq_true rfl) (Nat.le_of_ble_eq_true rfl) (fun _ => rfl) rfl (fun z2 G3 => ?_)
    refine r_goto 32 dX11_fetch_10 rfl ?_
    exact r_return dX11_fetch_32 rfl
theorem c_Bd_fetch (P W : Int) (x1 : Int) (x2 : Int) (x3 : Int) (G : St) : MG (MBd_fetch P W) [aR 180, aI x1, aI x2, aI x3] G (Bd_fetch P W x1 x2 x3 G) := MG.of plX11 (Nat.le_of_ble_eq_true rfl) (s_Bd_fetch P W x1 x2 x3 G)
theorem s_Ci_levelOf (P W : Int) (x1 : Int) (G : St) : SS (MCi_levelOf P W) some 0 [(0, aR 140), (1, aI x1)] [] G (Ci_levelOf x1 G) := by
  refine r_iload_n 1 1 dX5_levelOf_0 rfl rfl rfl ?_
  refine r_iconst 2 2 dX5_levelOf_1 rfl rfl ?_
  refine r_aload_n 3 0 dX5_levelOf_2 rfl rfl rfl ?_
  refine r_get 6 (aI (G 140 6)) dX5_levelOf_3 fkX5_37 (fun _ => dsC_140 P W _) nn140 rfl rfl ?_
  refine r_imul 7 dX5_levelOf_6 rfl ?_
  refine r_icmp_ge 14 10 dX5_levelOf_7 rfl rfl ?_ ?_
  · refine r_aload_n 15 0 dX5_levelOf_14 rfl rfl rfl ?_
    refine r_get 18 (aR 143) dX5_levelOf_15 fkX5_19 (fun _ => dsC_140 P W _) nn140 rfl rfl ?_
    refine r_iload_n 19 1 dX5_levelOf_18 rfl rfl rfl ?_
    refine r_iconst 20 2 dX5_levelOf_19 rfl rfl ?_
    refine r_idiv 21 dX5_levelOf_20 rfl ?_
    refine r_aload_n 22 0 dX5_levelOf_21 rfl rfl rfl ?_
    refine r_get 25 (aI (G 140 6)) dX5_levelOf_22 fkX5_37 (fun _ => dsC_140 P W _) nn140 rfl rfl ?_
    refine r_isub 26 dX5_levelOf_25 rfl ?_
    refine r_sald 27 dX5_levelOf_26 (fun _ _ _ => dsC_143 P W _) (fun _ _ => nn143) rfl ?_
    exact r_ireturn dX5_levelOf_27 rfl
  · refine r_iconst 11 0 dX5_levelOf_10 rfl rfl ?_
    refine r_goto 27 dX5_levelOf_11 rfl ?_
    exact r_ireturn dX5_levelOf_27 rfl
theorem c_Ci_levelOf (P W : Int) (x1 : Int) (G : St) : MG (MCi_levelOf P W) [aR 140, aI x1] G (Ci_levelOf x1 G) := MG.of plX5 (Nat.le_of_ble_eq_true rfl) (s_Ci_levelOf P W x1 G)
theorem s_Ci_gate_b113 (P W : Int) (x4 : Int) (s0 : Int) (s1 : Int) (G : St) : SS (MCi_gate P W) some 113 [(0, aR 140), (4, aI x4)] [aI s0, aI s1, aR 140] G (Ci_gate_b113 x4 s0 s1 G) := by
  refine r_iadd 114 dX5_gate_113 rfl ?_
  refine r_putI 117 dX5_gate_114 fkX5_31 (fun _ => dsC_140 P W _) nn140 rfl rfl ?_
  refine ss_tk (fun G10 => ?_)
  refine r_aload_n 118 0 dX5_gate_117 rfl rfl rfl ?_
  refine r_aload_n 119 0 dX5_gate_118 rfl rfl rfl ?_
  refine r_get 122 (aI (G10 140 7)) dX5_gate_119 fkX5_34 (fun _ => dsC_140 P W _) nn140 rfl rfl ?_
  refine r_iload 124 1 dX5_gate_122 rfl rfl ?_
  refine r_mmax 127 dX5_gate_124 q1462 (Nat.le_of_ble_eq_true rfl) (Nat.le_of_ble_eq_true rfl) rfl rfl ?_
  refine r_putI 130 dX5_gate_127 fkX5_34 (fun _ => dsC_140 P W _) nn140 rfl rfl ?_
  refine ss_tk (fun G11 => ?_)
  refine r_aload_n 131 0 dX5_gate_130 rfl rfl rfl ?_
  refine r_dup 132 dX5_gate_131 rfl rfl ?_
  refine r_get 135 (aI (G11 140 4)) dX5_gate_132 fkX5_27 (fun _ => dsC_140 P W _) nn140 rfl rfl ?_
  refine r_iconst 136 1 dX5_gate_135 rfl rfl ?_
  refine r_iadd 137 dX5_gate_136 rfl ?_
  refine r_putI 140 dX5_gate_137 fkX5_27 (fun _ => dsC_140 P W _) nn140 rfl rfl ?_
  refine ss_tk (fun G12 => ?_)
  refine r_iconst 141 2 dX5_gate_140 rfl rfl ?_
  refine r_aload_n 142 0 dX5_gate_141 rfl rfl rfl ?_
  refine r_get 145 (aI (G12 140 6)) dX5_gate_142 fkX5_37 (fun _ => dsC_140 P W _) nn140 rfl rfl ?_
  refine r_aload_n 146 0 dX5_gate_145 rfl rfl rfl ?_
  refine r_get 149 (aI (G12 140 4)) dX5_gate_146 fkX5_27 (fun _ => dsC_140 P W _) nn140 rfl rfl ?_
  refine r_iadd 150 dX5_gate_149 rfl ?_
  refine r_iconst 151 1 dX5_gate_150 rfl rfl ?_
  refine r_isub 152 dX5_gate_151 rfl ?_
  refine r_imul 153 dX5_gate_152 rfl ?_
  exact r_ireturn dX5_gate_153 rfl
theorem s_Ci_gate_b47 (P W : Int) (x1 : Int) (x2 : Int) (x3 : Int) (x4 : Int) (G : St) : SS (MCi_gate P W) some 47 [(0, aR 140), (1, aI x1), (2, aI x2), (3, aI x3), (4, aI x4)] [] G (Ci_gate_b47 x1 x2 x3 x4 G) := by
  refine r_aload_n 48 0 dX5_gate_47 rfl rfl rfl ?_
  refine r_get 51 (aI (G 140 8)) dX5_gate_48 fkX5_40 (fun _ => dsC_140 P W _) nn140 rfl rfl ?_
  refine r_if_eq 57 54 dX5_gate_51 rfl rfl ?_ ?_
  · refine r_aload_n 58 0 dX5_gate_57 rfl rfl rfl ?_
    refine r_get 61 (aR 141) dX5_gate_58 fkX5_10 (fun _ => dsC_140 P W _) nn140 rfl rfl ?_
    refine r_aload_n 62 0 dX5_gate_61 rfl rfl rfl ?_
    refine r_get 65 (aI (G 140 4)) dX5_gate_62 fkX5_27 (fun _ => dsC_140 P W _) nn140 rfl rfl ?_
    refine r_iload_n 66 2 dX5_gate_65 rfl rfl rfl ?_
    refine r_iast 67 dX5_gate_66 (fun _ _ _ => dsC_141 P W _) (fun _ _ => nn141) rfl ?_
    refine ss_tk (fun G6 => ?_)
    refine r_aload_n 68 0 dX5_gate_67 rfl rfl rfl ?_
    refine r_get 71 (aR 142) dX5_gate_68 fkX5_16 (fun _ => dsC_140 P W _) nn140 rfl rfl ?_
    refine r_aload_n 72 0 dX5_gate_71 rfl rfl rfl ?_
    refine r_get 75 (aI (G6 140 4)) dX5_gate_72 fkX5_27 (fun _ => dsC_140 P W _) nn140 rfl rfl ?_
    refine r_iload_n 76 3 dX5_gate_75 rfl rfl rfl ?_
    refine r_iast 77 dX5_gate_76 (fun _ _ _ => dsC_142 P W _) (fun _ _ => nn142) rfl ?_
    refine ss_tk (fun G7 => ?_)
    refine r_aload_n 78 0 dX5_gate_77 rfl rfl rfl ?_
    refine r_get 81 (aR 144) dX5_gate_78 fkX5_23 (fun _ => dsC_140 P W _) nn140 rfl rfl ?_
    refine r_aload_n 82 0 dX5_gate_81 rfl rfl rfl ?_
    refine r_get 85 (aI (G7 140 4)) dX5_gate_82 fkX5_27 (fun _ => dsC_140 P W _) nn140 rfl rfl ?_
    refine r_iload_n 86 1 dX5_gate_85 rfl rfl rfl ?_
    refine r_zast 87 dX5_gate_86 (fun _ _ _ => dsC_144 P W _) (fun _ _ => nn144) rfl ?_
    refine ss_tk (fun G8 => ?_)
    refine r_aload_n 88 0 dX5_gate_87 rfl rfl rfl ?_
    refine r_get 91 (aR 143) dX5_gate_88 fkX5_19 (fun _ => dsC_140 P W _) nn140 rfl rfl ?_
    refine r_aload_n 92 0 dX5_gate_91 rfl rfl rfl ?_
    refine r_get 95 (aI (G8 140 4)) dX5_gate_92 fkX5_27 (fun _ => dsC_140 P W _) nn140 rfl rfl ?_
    refine r_iload 97 4 dX5_gate_95 rfl rfl ?_
    refine r_i2s 98 dX5_gate_97 rfl ?_
    refine r_sast 99 dX5_gate_98 (fun _ _ _ => dsC_143 P W _) (fun _ _ => nn143) rfl ?_
    refine ss_tk (fun G9 => ?_)
    refine r_aload_n 100 0 dX5_gate_99 rfl rfl rfl ?_
    refine r_dup 101 dX5_gate_100 rfl rfl ?_
    refine r_get 104 (aI (G9 140 5)) dX5_gate_101 fkX5_31 (fun _ => dsC_140 P W _) nn140 rfl rfl ?_
    refine r_iload_n 105 1 dX5_gate_104 rfl rfl rfl ?_
    refine SS.phi (fun VV_ => Ci_gate_b113 x4 VV_ (G9 140 5) G9) ?_
    refine r_if_eq 112 108 dX5_gate_105 rfl rfl ?_ ?_
    · refine r_iconst 113 0 dX5_gate_112 rfl rfl ?_
      refine r_to [0, 4] [(0, aR 140), (4, aI x4)] rfl ?_
      exact s_Ci_gate_b113 P W x4 0 (G9 140 5) G9
    · refine r_iconst 109 1 dX5_gate_108 rfl rfl ?_
      refine r_goto 113 dX5_gate_109 rfl ?_
      refine r_to [0, 4] [(0, aR 140), (4, aI x4)] rfl ?_
      exact s_Ci_gate_b113 P W x4 1 (G9 140 5) G9
  · refine r_bipush 56 (-2) dX5_gate_54 rfl rfl ?_
    exact r_ireturn dX5_gate_56 rfl
theorem s_Ci_gate_b42 (P W : Int) (x1 : Int) (x2 : Int) (x3 : Int) (x4 : Int) (G : St) : SS (MCi_gate P W) some 42 [(0, aR 140), (1, aI x1), (2, aI x2), (3, aI x3), (4, aI x4)] [] G (Ci_gate_b42 x1 x2 x3 x4 G) := by
  refine r_aload_n 43 0 dX5_gate_42 rfl rfl rfl ?_
  refine r_iconst 44 1 dX5_gate_43 rfl rfl ?_
  refine r_putZ 47 dX5_gate_44 fkX5_40 (fun _ => dsC_140 P W _) nn140 rfl rfl ?_
  refine ss_tk (fun G5 => ?_)
  exact s_Ci_gate_b47 P W x1 x2 x3 x4 G5
theorem s_Ci_gate_b22 (P W : Int) (x1 : Int) (x2 : Int) (x3 : Int) (s0 : Int) (s1 : Int) (G : St) : SS (MCi_gate P W) some 22 [(0, aR 140), (1, aI x1), (2, aI x2), (3, aI x3)] [aI s0, aI s1] G (Ci_gate_b22 x1 x2 x3 s0 s1 G) := by
  refine r_iadd 23 dX5_gate_22 rfl ?_
  refine r_istore 25 [(4, aI (s1 + s0)), (0, aR 140), (1, aI x1), (2, aI x2), (3, aI x3)] dX5_gate_23 rfl rfl rfl ?_
  refine r_aload_n 26 1 dX5_gate_25 rfl rfl rfl ?_
  refine r_get 29 (aI (G 140 4)) dX5_gate_26 fkX5_27 (fun _ => dsC_140 P W _) nn140 rfl rfl ?_
  refine r_ldc 31 40000 dX5_gate_29 q325 (by decide) rfl rfl ?_
  refine r_icmp_eq 42 34 dX5_gate_31 rfl rfl ?_ ?_
  · refine r_to [1, 2, 3, 4, 0] [(0, aR 140), (1, aI x1), (2, aI x2), (3, aI x3), (4, aI (s1 + s0))] rfl ?_
    exact s_Ci_gate_b42 P W x1 x2 x3 (s1 + s0) G
  · refine r_iload 36 0 dX5_gate_34 rfl rfl ?_
    refine r_sipush 39 2000 dX5_gate_36 rfl rfl ?_
    refine r_icmp_le 47 42 dX5_gate_39 rfl rfl ?_ ?_
    · refine r_to [1, 2, 3, 4, 0] [(0, aR 140), (1, aI x1), (2, aI x2), (3, aI x3), (4, aI (s1 + s0))] rfl ?_
      exact s_Ci_gate_b47 P W x1 x2 x3 (s1 + s0) G
    · refine r_to [1, 2, 3, 4, 0] [(0, aR 140), (1, aI x1), (2, aI x2), (3, aI x3), (4, aI (s1 + s0))] rfl ?_
      exact s_Ci_gate_b42 P W x1 x2 x3 (s1 + s0) G
theorem s_Ci_gate (P W : Int) (x1 : Int) (x2 : Int) (x3 : Int) (G : St) : SS (MCi_gate P W) some 0 [(0, aR 140), (1, aI x1), (2, aI x2), (3, aI x3)] [] G (Ci_gate x1 x2 x3 G) := by
  refine r_aload_n 1 0 dX5_gate_0 rfl rfl rfl ?_
  refine r_iload_n 2 2 dX5_gate_1 rfl rfl rfl ?_
  refine r_callvI 5 (Mc := MCi_levelOf P W) (o := 140) (as := [aI x2]) (st := []) dX5_gate_2 rfl (c_Ci_levelOf P W x2 G) lkX5_44 (cmCi_levelOf P W) rfl rfl rfl (fun _ => dsC_140 P W _) nn140 rfl (Nat.le_of_ble_eq_true rfl) (Nat.le_of_ble_eq_true rfl) (fun _ => rfl) rfl (fun z1 G2 => ?_)
  refine r_aload_n 6 0 dX5_gate_5 rfl rfl rfl ?_
  refine r_iload_n 7 3 dX5_gate_6 rfl rfl rfl ?_
  refine r_callvI 10 (Mc := MCi_levelOf P W) (o := 140) (as := [aI x3]) (st := [aI z1]) dX5_gate_7 rfl (c_Ci_levelOf P W x3 G2) lkX5_44 (cmCi_levelOf P W) rfl rfl rfl (fun _ => dsC_140 P W _) nn140 rfl (Nat.le_of_ble_eq_true rfl) (Nat.le_of_ble_eq_true rfl) (fun _ => rfl) rfl (fun z3 G4 => ?_)
  refine r_mmax 13 dX5_gate_10 q1462 (Nat.le_of_ble_eq_true rfl) (Nat.le_of_ble_eq_true rfl) rfl rfl ?_
  refine r_iload_n 14 1 dX5_gate_13 rfl rfl rfl ?_
  refine SS.phi (fun VV_ => Ci_gate_b22 x1 x2 x3 VV_ (if z1 < z3 then z3 else z1) G4) ?_
  refine r_if_eq 21 17 dX5_gate_14 rfl rfl ?_ ?_
  · refine r_iconst 22 0 dX5_gate_21 rfl rfl ?_
    exact s_Ci_gate_b22 P W x1 x2 x3 0 (if z1 < z3 then z3 else z1) G4
  · refine r_iconst 18 1 dX5_gate_17 rfl rfl ?_
    refine r_goto 22 dX5_gate_18 rfl ?_
    exact s_Ci_gate_b22 P W x1 x2 x3 1 (if z1 < z3 then z3 else z1) G4
theorem c_Ci_gate (P W : Int) (x1 : Int) (x2 : Int) (x3 : Int) (G : St) : MG (MCi_gate P W) [aR 140, aI x1, aI x2, aI x3] G (Ci_gate x1 x2 x3 G) := MG.of plX5 (Nat.le_of_ble_eq_true rfl) (s_Ci_gate P W x1 x2 x3 G)
theorem s_Ci_and_b8 (P W : Int) (x1 : Int) (x2 : Int) (G : St) : SS (MCi_and P W) some 8 [(1, aI x1), (2, aI x2)] [] G (Ci_and_b8 x1 x2 G) := by
  refine r_iload_n 9 0 dX5_and_8 rfl rfl rfl ?_
  refine r_bipush 11 (-2) dX5_and_9 rfl rfl ?_
  refine SS.phi (fun VV_ => some (VV_, G)) ?_
  refine r_icmp_eq 20 14 dX5_and_11 rfl rfl ?_ ?_
  · refine r_bipush 22 (-2) dX5_and_20 rfl rfl ?_
    refine r_goto 35 dX5_and_22 rfl ?_
    exact r_ireturn dX5_and_35 rfl
  · refine r_iload_n 15 1 dX5_and_14 rfl rfl rfl ?_
    refine r_bipush 17 (-2) dX5_and_15 rfl rfl ?_
    refine SS.phi (fun VV_ => some (VV_, G)) ?_
    refine r_icmp_ne 25 20 dX5_and_17 rfl rfl ?_ ?_
    · refine r_iload_n 26 0 dX5_and_25 rfl rfl rfl ?_
      refine r_iconst 27 (-1) dX5_and_26 rfl rfl ?_
      refine SS.phi (fun VV_ => some (VV_, G)) ?_
      refine r_icmp_ne 34 30 dX5_and_27 rfl rfl ?_ ?_
      · refine r_iload_n 35 0 dX5_and_34 rfl rfl rfl ?_
        exact r_ireturn dX5_and_35 rfl
      · refine r_iload_n 31 1 dX5_and_30 rfl rfl rfl ?_
        refine r_goto 35 dX5_and_31 rfl ?_
        exact r_ireturn dX5_and_35 rfl
    · refine r_bipush 22 (-2) dX5_and_20 rfl rfl ?_
      refine r_goto 35 dX5_and_22 rfl ?_
      exact r_ireturn dX5_and_35 rfl
theorem s_Ci_and (P W : Int) (x1 : Int) (x2 : Int) (G : St) : SS (MCi_and P W) some 0 [(0, aR 140), (1, aI x1), (2, aI x2)] [] G (Ci_and x1 x2 G) := by
  refine r_iload_n 1 1 dX5_and_0 rfl rfl rfl ?_
  refine r_if_lt 8 4 dX5_and_1 rfl rfl ?_ ?_
  · refine r_to [1, 2] [(1, aI x1), (2, aI x2)] rfl ?_
    exact s_Ci_and_b8 P W x1 x2 G
  · refine r_iload_n 5 2 dX5_and_4 rfl rfl rfl ?_
    refine r_if_ge 36 8 dX5_and_5 rfl rfl ?_ ?_
    · refine r_iload_n 37 1 dX5_and_36 rfl rfl rfl ?_
      refine r_iconst 38 2 dX5_and_37 rfl rfl ?_
      refine r_idiv 39 dX5_and_38 rfl ?_
      refine r_iload_n 40 2 dX5_and_39 rfl rfl rfl ?_
      refine r_iconst 41 2 dX5_and_40 rfl rfl ?_
      refine r_idiv 42 dX5_and_41 rfl ?_
      refine r_icmp_ne 57 45 dX5_and_42 rfl rfl ?_ ?_
      · refine r_aload_n 58 0 dX5_and_57 rfl rfl rfl ?_
        refine r_iconst 59 1 dX5_and_58 rfl rfl ?_
        refine r_iload_n 60 1 dX5_and_59 rfl rfl rfl ?_
        refine r_iload_n 61 2 dX5_and_60 rfl rfl rfl ?_
        refine r_callvI 64 (Mc := MCi_gate P W) (o := 140) (as := [aI 1, aI x1, aI x2]) (st := []) dX5_and_61 rfl (c_Ci_gate P W 1 x1 x2 G) lkX5_54 (cmCi_gate P W) rfl rfl rfl (fun _ => dsC_140 P W _) nn140 rfl (Nat.le_of_ble_eq_true rfl) (Nat.le_of_ble_eq_true rfl) (fun _ => rfl) rfl (fun z1 G2 => ?_)
        exact r_ireturn dX5_and_64 rfl
      · refine r_iload_n 46 1 dX5_and_45 rfl rfl rfl ?_
        refine r_iload_n 47 2 dX5_and_46 rfl rfl rfl ?_
        refine SS.phi (fun VV_ => some (VV_, G)) ?_
        refine r_icmp_ne 54 50 dX5_and_47 rfl rfl ?_ ?_
        · refine r_bipush 56 (-2) dX5_and_54 rfl rfl ?_
          exact r_ireturn dX5_and_56 rfl
        · refine r_iload_n 51 1 dX5_and_50 rfl rfl rfl ?_
          refine r_goto 56 dX5_and_51 rfl ?_
          exact r_ireturn dX5_and_56 rfl
    · refine r_to [1, 2] [(1, aI x1), (2, aI x2)] rfl ?_
      exact s_Ci_and_b8 P W x1 x2 G
theorem c_Ci_and (P W : Int) (x1 : Int) (x2 : Int) (G : St) : MG (MCi_and P W) [aR 140, aI x1, aI x2] G (Ci_and x1 x2 G) := MG.of plX5 (Nat.le_of_ble_eq_true rfl) (s_Ci_and P W x1 x2 G)
theorem s_Ci_xor_b8 (P W : Int) (x1 : Int) (x2 : Int) (G : St) : SS (MCi_xor P W) some 8 [(1, aI x1), (2, aI x2)] [] G (Ci_xor_b8 x1 x2 G) := by
  refine r_iload_n 9 0 dX5_xor_8 rfl rfl rfl ?_
  refine r_if_ge 20 12 dX5_xor_9 rfl rfl ?_ ?_
  · refine r_iload_n 21 0 dX5_xor_20 rfl rfl rfl ?_
    refine r_iload_n 22 1 dX5_xor_21 rfl rfl rfl ?_
    refine r_iconst 23 1 dX5_xor_22 rfl rfl ?_
    refine r_iand 24 dX5_xor_23 rfl ?_
    refine r_ixor 25 dX5_xor_24 rfl ?_
    exact r_ireturn dX5_xor_25 rfl
  · refine r_iload_n 13 1 dX5_xor_12 rfl rfl rfl ?_
    refine r_iload_n 14 0 dX5_xor_13 rfl rfl rfl ?_
    refine r_iconst 15 1 dX5_xor_14 rfl rfl ?_
    refine r_iand 16 dX5_xor_15 rfl ?_
    refine r_ixor 17 dX5_xor_16 rfl ?_
    refine r_goto 25 dX5_xor_17 rfl ?_
    exact r_ireturn dX5_xor_25 rfl
theorem s_Ci_xor (P W : Int) (x1 : Int) (x2 : Int) (G : St) : SS (MCi_xor P W) some 0 [(0, aR 140), (1, aI x1), (2, aI x2)] [] G (Ci_xor x1 x2 G) := by
  refine r_iload_n 1 1 dX5_xor_0 rfl rfl rfl ?_
  refine r_if_lt 8 4 dX5_xor_1 rfl rfl ?_ ?_
  · refine r_to [1, 2] [(1, aI x1), (2, aI x2)] rfl ?_
    exact s_Ci_xor_b8 P W x1 x2 G
  · refine r_iload_n 5 2 dX5_xor_4 rfl rfl rfl ?_
    refine r_if_ge 26 8 dX5_xor_5 rfl rfl ?_ ?_
    · refine r_iload_n 27 1 dX5_xor_26 rfl rfl rfl ?_
      refine r_iconst 28 2 dX5_xor_27 rfl rfl ?_
      refine r_idiv 29 dX5_xor_28 rfl ?_
      refine r_iload_n 30 2 dX5_xor_29 rfl rfl rfl ?_
      refine r_iconst 31 2 dX5_xor_30 rfl rfl ?_
      refine r_idiv 32 dX5_xor_31 rfl ?_
      refine r_icmp_ne 47 35 dX5_xor_32 rfl rfl ?_ ?_
      · refine r_aload_n 48 0 dX5_xor_47 rfl rfl rfl ?_
        refine r_iconst 49 0 dX5_xor_48 rfl rfl ?_
        refine r_iload_n 50 1 dX5_xor_49 rfl rfl rfl ?_
        refine r_bipush 52 (-2) dX5_xor_50 rfl rfl ?_
        refine r_iand 53 dX5_xor_52 rfl ?_
        refine r_iload_n 54 2 dX5_xor_53 rfl rfl rfl ?_
        refine r_bipush 56 (-2) dX5_xor_54 rfl rfl ?_
        refine r_iand 57 dX5_xor_56 rfl ?_
        refine r_callvI 60 (Mc := MCi_gate P W) (o := 140) (as := [aI 0, aI (j_an x1 (-2)), aI (j_an x2 (-2))]) (st := []) dX5_xor_57 rfl (c_Ci_gate P W 0 (j_an x1 (-2)) (j_an x2 (-2)) G) lkX5_54 (cmCi_gate P W) rfl rfl rfl (fun _ => dsC_140 P W _) nn140 rfl (Nat.le_of_ble_eq_true rfl) (Nat.le_of_ble_eq_true rfl) (fun _ => rfl) rfl (fun z1 G2 => ?_)
        refine r_iload_n 61 1 dX5_xor_60 rfl rfl rfl ?_
        refine r_iload_n 62 2 dX5_xor_61 rfl rfl rfl ?_
        refine r_ixor 63 dX5_xor_62 rfl ?_
        refine r_iconst 64 1 dX5_xor_63 rfl rfl ?_
        refine r_iand 65 dX5_xor_64 rfl ?_
        refine r_ixor 66 dX5_xor_65 rfl ?_
        exact r_ireturn dX5_xor_66 rfl
      · refine r_iload_n 36 1 dX5_xor_35 rfl rfl rfl ?_
        refine r_iload_n 37 2 dX5_xor_36 rfl rfl rfl ?_
        refine SS.phi (fun VV_ => some (VV_, G)) ?_
        refine r_icmp_ne 45 40 dX5_xor_37 rfl rfl ?_ ?_
        · refine r_iconst 46 (-1) dX5_xor_45 rfl rfl ?_
          exact r_ireturn dX5_xor_46 rfl
        · refine r_bipush 42 (-2) dX5_xor_40 rfl rfl ?_
          refine r_goto 46 dX5_xor_42 rfl ?_
          exact r_ireturn dX5_xor_46 rfl
    · refine r_to [1, 2] [(1, aI x1), (2, aI x2)] rfl ?_
      exact s_Ci_xor_b8 P W x1 x2 G
theorem c_Ci_xor (P W : Int) (x1 : Int) (x2 : Int) (G : St) : MG (MCi_xor P W) [aR 140, aI x1, aI x2] G (Ci_xor x1 x2 G) := MG.of plX5 (Nat.le_of_ble_eq_true rfl) (s_Ci_xor P W x1 x2 G)
theorem s_Wo_equal_b116 (P W : Int) (X49 : Int × St → Option (Int × St)) (hX49 : ∀ s, So (MWo_equal P W) 49 [(0, aR 210), (6, aI (s.1))] [] s.2 (X49 s)) (x6 : Int) (X61 : Int × Int × St → Option (Int × St)) (hX61 : ∀ s, So (MWo_equal P W) 61 [(0, aR 210), (6, aI x6), (7, aI (s.1)), (8, aI (s.2.1))] [] s.2.2 (X61 s)) (x7 : Int) (x8 : Int) (s0 : Int) (s1 : Int) (G : St) : SS (MWo_equal P W) (lk X61 (lk X49 some)) 116 [(0, aR 210), (6, aI x6), (7, aI x7), (8, aI x8)] [aI s0, aI s1, aR 211] G (Wo_equal_b116 P W x6 x7 x8 s0 s1 G) := by
  refine r_iast 117 dX12_equal_116 (fun _ _ _ => dsC_211 P W _) (fun _ _ => nn211) rfl ?_
  refine ss_tk (fun G1 => ?_)
  refine r_iinc 120 [(7, aI (x7 + 1)), (0, aR 210), (6, aI x6), (8, aI x8)] 2 dX12_equal_117 rfl rfl rfl rfl ?_
  refine r_iinc 123 [(8, aI (x8 + 2)), (7, aI (x7 + 1)), (0, aR 210), (6, aI x6)] 3 dX12_equal_120 rfl rfl rfl rfl ?_
  refine r_goto 61 dX12_equal_123 rfl ?_
  refine r_to [2, 3, 1, 0] [(0, aR 210), (6, aI x6), (7, aI (x7 + 1)), (8, aI (x8 + 2))] rfl ?_
  exact SS.back (hX61 (x7 + 1, x8 + 2, G1))
theorem s_Wo_equal_s61 (P W : Int) (X49 : Int × St → Option (Int × St)) (hX49 : ∀ s, So (MWo_equal P W) 49 [(0, aR 210), (6, aI (s.1))] [] s.2 (X49 s)) (x6 : Int) (X61 : Int × Int × St → Option (Int × St)) (hX61 : ∀ s, So (MWo_equal P W) 61 [(0, aR 210), (6, aI x6), (7, aI (s.1)), (8, aI (s.2.1))] [] s.2.2 (X61 s)) (x7 : Int) (x8 : Int) (G : St) : SS (MWo_equal P W) (lk X61 (lk X49 some)) 61 [(0, aR 210), (6, aI x6), (7, aI x7), (8, aI x8)] [] G (Wo_equal_s61 P W x6 x7 x8 G) := by
  refine r_iload 63 3 dX12_equal_61 rfl rfl ?_
  refine r_iload 65 1 dX12_equal_63 rfl rfl ?_
  refine r_icmp_ge 126 68 dX12_equal_65 rfl rfl ?_ ?_
  · refine SS.ex ?_
    refine r_iload 128 2 dX12_equal_126 rfl rfl ?_
    refine r_istore 130 [(6, aI x7), (0, aR 210), (7, aI x7), (8, aI x8)] dX12_equal_128 rfl rfl rfl ?_
    refine r_goto 49 dX12_equal_130 rfl ?_
    refine r_to [1, 0] [(0, aR 210), (6, aI x7)] rfl ?_
    exact SS.back (hX49 (x7, G))
  · refine r_aload_n 69 0 dX12_equal_68 rfl rfl rfl ?_
    refine r_get 72 (aR 211) dX12_equal_69 fkX12_7 (fun _ => dsC_210 P W _) nn210 rfl rfl ?_
    refine r_iload 74 2 dX12_equal_72 rfl rfl ?_
    refine r_iload 76 3 dX12_equal_74 rfl rfl ?_
    refine r_iconst 77 1 dX12_equal_76 rfl rfl ?_
    refine r_iadd 78 dX12_equal_77 rfl ?_
    refine r_iload 80 1 dX12_equal_78 rfl rfl ?_
    refine r_icmp_ge 109 83 dX12_equal_80 rfl rfl ?_ ?_
    · refine r_aload_n 110 0 dX12_equal_109 rfl rfl rfl ?_
      refine r_get 113 (aR 211) dX12_equal_110 fkX12_7 (fun _ => dsC_210 P W _) nn210 rfl rfl ?_
      refine r_iload 115 3 dX12_equal_113 rfl rfl ?_
      refine r_iald 116 dX12_equal_115 (fun _ _ _ => dsC_211 P W _) (fun _ _ => nn211) rfl ?_
      exact s_Wo_equal_b116 P W X49 hX49 x6 X61 hX61 x7 x8 (G 211 x8) x7 G
    · refine r_aload_n 84 0 dX12_equal_83 rfl rfl rfl ?_
      refine r_get 87 (aR 140) dX12_equal_84 fkX12_25 (fun _ => dsC_210 P W _) nn210 rfl rfl ?_
      refine r_aload_n 88 0 dX12_equal_87 rfl rfl rfl ?_
      refine r_get 91 (aR 211) dX12_equal_88 fkX12_7 (fun _ => dsC_210 P W _) nn210 rfl rfl ?_
      refine r_iload 93 3 dX12_equal_91 rfl rfl ?_
      refine r_iald 94 dX12_equal_93 (fun _ _ _ => dsC_211 P W _) (fun _ _ => nn211) rfl ?_
      refine r_aload_n 95 0 dX12_equal_94 rfl rfl rfl ?_
      refine r_get 98 (aR 211) dX12_equal_95 fkX12_7 (fun _ => dsC_210 P W _) nn210 rfl rfl ?_
      refine r_iload 100 3 dX12_equal_98 rfl rfl ?_
      refine r_iconst 101 1 dX12_equal_100 rfl rfl ?_
      refine r_iadd 102 dX12_equal_101 rfl ?_
      refine r_iald 103 dX12_equal_102 (fun _ _ _ => dsC_211 P W _) (fun _ _ => nn211) rfl ?_
      refine r_callvI 106 (Mc := MCi_and P W) (o := 140) (as := [aI (G 211 x8), aI (G 211 (x8 + 1))]) (st := [aI x7, aR 211]) dX12_equal_103 rfl (c_Ci_and P W (G 211 x8) (G 211 (x8 + 1)) G) lkX12_39 (cmCi_and P W) rfl rfl rfl (fun _ => dsC_140 P W _) nn140 rfl (Nat.le_of_ble_eq_true rfl) (Nat.le_of_ble_eq_true rfl) (fun _ => rfl) rfl (fun z2 G3 => ?_)
      refine r_goto 116 dX12_equal_106 rfl ?_
      exact s_Wo_equal_b116 P W X49 hX49 x6 X61 hX61 x7 x8 z2 x7 G3
theorem sl_Wo_equal_61 (P W : Int) (X49 : Int × St → Option (Int × St)) (hX49 : ∀ s, So (MWo_equal P W) 49 [(0, aR 210), (6, aI (s.1))] [] s.2 (X49 s)) (x6 : Int) (x7 : Int) (x8 : Int) (G : St) : SS (MWo_equal P W) (lk X49 some) 61 [(0, aR 210), (6, aI x6), (7, aI x7), (8, aI x8)] [] G (Wo_equal_l61 P W x6 x7 x8 G) := by
  exact SS.loop (σ := Int × Int × St) (fun s => [(0, aR 210), (6, aI x6), (7, aI (s.1)), (8, aI (s.2.1))]) (fun s => s.2.2) (fun s => Wo_equal_s61 P W x6 s.1 s.2.1 s.2.2) (fun X61 hX61 s => s_Wo_equal_s61 P W X49 hX49 x6  X61 hX61 s.1 s.2.1 s.2.2) (x7, x8, G)
theorem s_Wo_equal_s49 (P W : Int) (X49 : Int × St → Option (Int × St)) (hX49 : ∀ s, So (MWo_equal P W) 49 [(0, aR 210), (6, aI (s.1))] [] s.2 (X49 s)) (x6 : Int) (G : St) : SS (MWo_equal P W) (lk X49 some) 49 [(0, aR 210), (6, aI x6)] [] G (Wo_equal_s49 P W x6 G) := by
  refine r_iload 51 1 dX12_equal_49 rfl rfl ?_
  refine r_iconst 52 1 dX12_equal_51 rfl rfl ?_
  refine r_icmp_le 133 55 dX12_equal_52 rfl rfl ?_ ?_
  · refine SS.ex ?_
    refine r_aload_n 134 0 dX12_equal_133 rfl rfl rfl ?_
    refine r_get 137 (aR 211) dX12_equal_134 fkX12_7 (fun _ => dsC_210 P W _) nn210 rfl rfl ?_
    refine r_iconst 138 0 dX12_equal_137 rfl rfl ?_
    refine r_iald 139 dX12_equal_138 (fun _ _ _ => dsC_211 P W _) (fun _ _ => nn211) rfl ?_
    exact r_ireturn dX12_equal_139 rfl
  · refine r_iconst 56 0 dX12_equal_55 rfl rfl ?_
    refine r_istore 58 [(7, aI 0), (0, aR 210), (6, aI x6)] dX12_equal_56 rfl rfl rfl ?_
    refine r_iconst 59 0 dX12_equal_58 rfl rfl ?_
    refine r_istore 61 [(8, aI 0), (7, aI 0), (0, aR 210), (6, aI x6)] dX12_equal_59 rfl rfl rfl ?_
    refine r_to [2, 3, 1, 0] [(0, aR 210), (6, aI x6), (7, aI 0), (8, aI 0)] rfl ?_
    exact sl_Wo_equal_61 P W X49 hX49 x6 0 0 G
theorem sl_Wo_equal_49 (P W : Int) (x6 : Int) (G : St) : SS (MWo_equal P W) some 49 [(0, aR 210), (6, aI x6)] [] G (Wo_equal_l49 P W x6 G) := by
  exact SS.loop (σ := Int × St) (fun s => [(0, aR 210), (6, aI (s.1))]) (fun s => s.2) (fun s => Wo_equal_s49 P W s.1 s.2) (fun X49 hX49 s => s_Wo_equal_s49 P W   X49 hX49 s.1 s.2) (x6, G)
theorem s_Wo_equal_s3 (P W : Int) (x1 : Int) (x2 : Int) (x3 : Int) (x4 : Int) (x5 : Int) (X3 : Int × St → Option (Int × St)) (hX3 : ∀ s, So (MWo_equal P W) 3 [(0, aR 210), (1, aR x1), (2, aI x2), (3, aR x3), (4, aI x4), (5, aI x5), (6, aI (s.1))] [] s.2 (X3 s)) (x6 : Int) (G : St) : SS (MWo_equal P W) (lk X3 some) 3 [(0, aR 210), (1, aR x1), (2, aI x2), (3, aR x3), (4, aI x4), (5, aI x5), (6, aI x6)] [] G (Wo_equal_s3 P W x1 x2 x3 x4 x5 x6 G) := by
  refine r_iload 5 6 dX12_equal_3 rfl rfl ?_
  refine r_iload 7 5 dX12_equal_5 rfl rfl ?_
  refine r_icmp_ge 45 10 dX12_equal_7 rfl rfl ?_ ?_
  · refine SS.ex ?_
    refine r_iload 47 5 dX12_equal_45 rfl rfl ?_
    refine r_istore 49 [(6, aI x5), (0, aR 210), (1, aR x1), (2, aI x2), (3, aR x3), (4, aI x4), (5, aI x5)] dX12_equal_47 rfl rfl rfl ?_
    refine r_to [1, 0] [(0, aR 210), (6, aI x5)] rfl ?_
    exact sl_Wo_equal_49 P W x5 G
  · refine r_aload_n 11 0 dX12_equal_10 rfl rfl rfl ?_
    refine r_get 14 (aR 211) dX12_equal_11 fkX12_7 (fun _ => dsC_210 P W _) nn210 rfl rfl ?_
    refine r_iload 16 6 dX12_equal_14 rfl rfl ?_
    refine r_aload_n 17 0 dX12_equal_16 rfl rfl rfl ?_
    refine r_get 20 (aR 140) dX12_equal_17 fkX12_25 (fun _ => dsC_210 P W _) nn210 rfl rfl ?_
    refine r_aload_n 21 1 dX12_equal_20 rfl rfl rfl ?_
    refine r_iload_n 22 2 dX12_equal_21 rfl rfl rfl ?_
    refine r_iload 24 6 dX12_equal_22 rfl rfl ?_
    refine r_iadd 25 dX12_equal_24 rfl ?_
    refine r_iald 26 dX12_equal_25 (fun h h0 h1 => ialC_c P W h (Int.lt_of_le_of_lt h0 h1)) (fun h0 h1 => ialC_n P W (Int.lt_of_le_of_lt h0 h1)) rfl ?_
    refine r_aload_n 27 3 dX12_equal_26 rfl rfl rfl ?_
    refine r_iload 29 4 dX12_equal_27 rfl rfl ?_
    refine r_iload 31 6 dX12_equal_29 rfl rfl ?_
    refine r_iadd 32 dX12_equal_31 rfl ?_
    refine r_iald 33 dX12_equal_32 (fun h h0 h1 => ialC_c P W h (Int.lt_of_le_of_lt h0 h1)) (fun h0 h1 => ialC_n P W (Int.lt_of_le_of_lt h0 h1)) rfl ?_
    refine r_callvI 36 (Mc := MCi_xor P W) (o := 140) (as := [aI (G x1 (x2 + x6)), aI (G x3 (x4 + x6))]) (st := [aI x6, aR 211]) dX12_equal_33 rfl (c_Ci_xor P W (G x1 (x2 + x6)) (G x3 (x4 + x6)) G) lkX12_33 (cmCi_xor P W) rfl rfl rfl (fun _ => dsC_140 P W _) nn140 rfl (Nat.le_of_ble_eq_true rfl) (Nat.le_of_ble_eq_true rfl) (fun _ => rfl) rfl (fun z4 G5 => ?_)
    refine r_iconst 37 1 dX12_equal_36 rfl rfl ?_
    refine r_ixor 38 dX12_equal_37 rfl ?_
    refine r_iast 39 dX12_equal_38 (fun _ _ _ => dsC_211 P W _) (fun _ _ => nn211) rfl ?_
    refine ss_tk (fun G6 => ?_)
    refine r_iinc 42 [(6, aI (x6 + 1)), (0, aR 210), (1, aR x1), (2, aI x2), (3, aR x3), (4, aI x4), (5, aI x5)] 6 dX12_equal_39 rfl rfl rfl rfl ?_
    refine r_goto 3 dX12_equal_42 rfl ?_
    refine r_to [1, 2, 3, 4, 5, 6, 0] [(0, aR 210), (1, aR x1), (2, aI x2), (3, aR x3), (4, aI x4), (5, aI x5), (6, aI (x6 + 1))] rfl ?_
    exact SS.back (hX3 (x6 + 1, G6))
theorem sl_Wo_equal_3 (P W : Int) (x1 : Int) (x2 : Int) (x3 : Int) (x4 : Int) (x5 : Int) (x6 : Int) (G : St) : SS (MWo_equal P W) some 3 [(0, aR 210), (1, aR x1), (2, aI x2), (3, aR x3), (4, aI x4), (5, aI x5), (6, aI x6)] [] G (Wo_equal_l3 P W x1 x2 x3 x4 x5 x6 G) := by
  exact SS.loop (σ := Int × St) (fun s => [(0, aR 210), (1, aR x1), (2, aI x2), (3, aR x3), (4, aI x4), (5, aI x5), (6, aI (s.1))]) (fun s => s.2) (fun s => Wo_equal_s3 P W x1 x2 x3 x4 x5 s.1 s.2) (fun X3 hX3 s => s_Wo_equal_s3 P W x1 x2 x3 x4 x5  X3 hX3 s.1 s.2) (x6, G)
theorem s_Wo_equal (P W : Int) (x1 : Int) (x2 : Int) (x3 : Int) (x4 : Int) (x5 : Int) (G : St) : SS (MWo_equal P W) some 0 [(0, aR 210), (1, aR x1), (2, aI x2), (3, aR x3), (4, aI x4), (5, aI x5)] [] G (Wo_equal P W x1 x2 x3 x4 x5 G) := by
  refine r_iconst 1 0 dX12_equal_0 rfl rfl ?_
  refine r_istore 3 [(6, aI 0), (0, aR 210), (1, aR x1), (2, aI x2), (3, aR x3), (4, aI x4), (5, aI x5)] dX12_equal_1 rfl rfl rfl ?_
  refine r_to [1, 2, 3, 4, 5, 6, 0] [(0, aR 210), (1, aR x1), (2, aI x2), (3, aR x3), (4, aI x4), (5, aI x5), (6, aI 0)] rfl ?_
  exact sl_Wo_equal_3 P W x1 x2 x3 x4 x5 0 G
theorem c_Wo_equal (P W : Int) (x1 : Int) (x2 : Int) (x3 : Int) (x4 : Int) (x5 : Int) (G : St) : MG (MWo_equal P W) [aR 210, aR x1, aI x2, aR x3, aI x4, aI x5] G (Wo_equal P W x1 x2 x3 x4 x5 G) := MG.of plX12 (Nat.le_of_ble_eq_true rfl) (s_Wo_equal P W x1 x2 x3 x4 x5 G)
theorem s_Bd_isElement_b22 (P W : Int) (x1 : Int) (x2 : Int) (G : St) : SS (MBd_isElement P W) some 22 [(0, aR 180), (1, aI x1), (2, aI x2)] [] G (Bd_isElement_b22 P W x1 x2 G) := by
  refine r_aload_n 23 0 dX11_isElement_22 rfl rfl rfl ?_
  refine r_aload_n 24 0 dX11_isElement_23 rfl rfl rfl ?_
  refine r_get 27 (aR 205) dX11_isElement_24 fkX11_94 (fun _ => dsC_180 P W _) nn180 rfl rfl ?_
  refine r_iload_n 28 2 dX11_isElement_27 rfl rfl rfl ?_
  refine r_i2l 29 dX11_isElement_28 rfl ?_
  refine r_callvV 32 (Mc := MBd_constant P W) (o := 180) (as := [aR 205, aL x2]) (st := []) dX11_isElement_29 rfl (c_Bd_constant P W x2 G) lkX11_264 (cmBd_constant P W) rfl rfl rfl (fun _ => dsC_180 P W _) nn180 rfl (Nat.le_of_ble_eq_true rfl) (Nat.le_of_ble_eq_true rfl) (fun _ => rfl) rfl (fun z1 G2 => ?_)
  refine r_aload_n 33 0 dX11_isElement_32 rfl rfl rfl ?_
  refine r_get 36 (aR 210) dX11_isElement_33 fkX11_81 (fun _ => dsC_180 P W _) nn180 rfl rfl ?_
  refine r_aload_n 37 0 dX11_isElement_36 rfl rfl rfl ?_
  refine r_get 40 (aR 181) dX11_isElement_37 fkX11_85 (fun _ => dsC_180 P W _) nn180 rfl rfl ?_
  refine r_iload_n 41 1 dX11_isElement_40 rfl rfl rfl ?_
  refine r_aload_n 42 0 dX11_isElement_41 rfl rfl rfl ?_
  refine r_get 45 (aR 205) dX11_isElement_42 fkX11_94 (fun _ => dsC_180 P W _) nn180 rfl rfl ?_
  refine r_iconst 46 0 dX11_isElement_45 rfl rfl ?_
  refine r_aload_n 47 0 dX11_isElement_46 rfl rfl rfl ?_
  refine r_get 50 (aI W) dX11_isElement_47 fkX11_60 (fun _ => dsC_180 P W _) nn180 rfl rfl ?_
  refine r_callvI 53 (Mc := MWo_equal P W) (o := 210) (as := [aR 181, aI x1, aR 205, aI 0, aI W]) (st := []) dX11_isElement_50 rfl (c_Wo_equal P W 181 x1 205 0 W G2) lkX11_268 (cmWo_equal P W) rfl rfl rfl (fun _ => dsC_210 P W _) nn210 rfl (Nat.le_of_ble_eq_true rfl) (Nat.le_of_ble_eq_true rfl) (fun _ => rfl) rfl (fun z3 G4 => ?_)
  exact r_ireturn dX11_isElement_53 rfl
theorem s_Bd_isElement (P W : Int) (x1 : Int) (x2 : Int) (G : St) : SS (MBd_isElement P W) some 0 [(0, aR 180), (1, aI x1), (2, aI x2)] [] G (Bd_isElement P W x1 x2 G) := by
  refine r_aload_n 1 0 dX11_isElement_0 rfl rfl rfl ?_
  refine r_get 4 (aI W) dX11_isElement_1 fkX11_60 (fun _ => dsC_180 P W _) nn180 rfl rfl ?_
  refine r_bipush 6 7 dX11_isElement_4 rfl rfl ?_
  refine r_icmp_ge 22 9 dX11_isElement_6 rfl rfl ?_ ?_
  · exact s_Bd_isElement_b22 P W x1 x2 G
  · refine r_iload_n 10 2 dX11_isElement_9 rfl rfl rfl ?_
    refine r_iconst 11 1 dX11_isElement_10 rfl rfl ?_
    refine r_aload_n 12 0 dX11_isElement_11 rfl rfl rfl ?_
    refine r_get 15 (aI W) dX11_isElement_12 fkX11_60 (fun _ => dsC_180 P W _) nn180 rfl rfl ?_
    refine r_ishl 16 dX11_isElement_15 rfl ?_
    refine r_icmp_lt 22 19 dX11_isElement_16 rfl rfl ?_ ?_
    · exact s_Bd_isElement_b22 P W x1 x2 G
    · refine r_bipush 21 (-2) dX11_isElement_19 rfl rfl ?_
      exact r_ireturn dX11_isElement_21 rfl
theorem c_Bd_isElement (P W : Int) (x1 : Int) (x2 : Int) (G : St) : MG (MBd_isElement P W) [aR 180, aI x1, aI x2] G (Bd_isElement P W x1 x2 G) := MG.of plX11 (Nat.le_of_ble_eq_true rfl) (s_Bd_isElement P W x1 x2 G)
theorem s_Bd_needBelow (P W : Int) (x1 : Int) (x3 : Int) (x4 : Int) (G : St) : SS (MBd_needBelow P W) some 0 [(0, aR 180), (1, aL x1), (3, aI x3), (4, aI x4)] [] G (Bd_needBelow x1 x3 x4 G) := by
  refine r_lload_n 1 1 dX11_needBelow_0 rfl rfl rfl ?_
  refine r_iload_n 2 2 dX11_needBelow_1 rfl rfl rfl ?_
  refine r_i2l 3 dX11_needBelow_2 rfl ?_
  refine r_lif_lt 4 18 7 dX11_needBelow_3 rfl dX11_needBelow_4 rfl rfl ?_ ?_
  · exact r_return dX11_needBelow_18 rfl
  · refine r_aload_n 8 0 dX11_needBelow_7 rfl rfl rfl ?_
    refine r_get 11 (aR 130) dX11_needBelow_8 fkX11_68 (fun _ => dsC_180 P W _) nn180 rfl rfl ?_
    refine r_bipush 13 7 dX11_needBelow_11 rfl rfl ?_
    refine r_iload 15 3 dX11_needBelow_13 rfl rfl ?_
    refine r_callvV 18 (Mc := MFt_set P W) (o := 130) (as := [aI 7, aI x4]) (st := []) dX11_needBelow_15 rfl (c_Ft_set P W 7 x4 G) lkX11_157 (cmFt_set P W) rfl rfl rfl (fun _ => dsC_130 P W _) nn130 rfl (Nat.le_of_ble_eq_true rfl) (Nat.le_of_ble_eq_true rfl) (fun _ => rfl) rfl (fun z1 G2 => ?_)
    exact r_return dX11_needBelow_18 rfl
theorem c_Bd_needBelow (P W : Int) (x1 : Int) (x3 : Int) (x4 : Int) (G : St) : MG (MBd_needBelow P W) [aR 180, aL x1, aI x3, aI x4] G (Bd_needBelow x1 x3 x4 G) := MG.of plX11 (Nat.le_of_ble_eq_true rfl) (s_Bd_needBelow P W x1 x3 x4 G)
theorem s_Bd_place (P W : Int) (x1 : Int) (G : St) : SS (MBd_place P W) some 0 [(0, aR 180), (1, aI x1)] [] G (Bd_place P W x1 G) := by
  refine r_aload_n 1 0 dX11_place_0 rfl rfl rfl ?_
  refine r_get 4 (aI W) dX11_place_1 fkX11_60 (fun _ => dsC_180 P W _) nn180 rfl rfl ?_
  refine r_aload_n 5 0 dX11_place_4 rfl rfl rfl ?_
  refine r_get 8 (aI (G 180 6)) dX11_place_5 fkX11_109 (fun _ => dsC_180 P W _) nn180 rfl rfl ?_
  refine r_iload_n 9 1 dX11_place_8 rfl rfl rfl ?_
  refine r_isub 10 dX11_place_9 rfl ?_
  refine r_imul 11 dX11_place_10 rfl ?_
  exact r_ireturn dX11_place_11 rfl
theorem c_Bd_place (P W : Int) (x1 : Int) (G : St) : MG (MBd_place P W) [aR 180, aI x1] G (Bd_place P W x1 G) := MG.of plX11 (Nat.le_of_ble_eq_true rfl) (s_Bd_place P W x1 G)
theorem s_Bd_push (P W : Int) (x1 : Int) (x2 : Int) (x3 : Int) (G : St) : SS (MBd_push P W) some 0 [(0, aR 180), (1, aR x1), (2, aI x2), (3, aI x3)] [] G (Bd_push P W x1 x2 x3 G) := by
  refine r_aload_n 1 1 dX11_push_0 rfl rfl rfl ?_
  refine r_iload_n 2 2 dX11_push_1 rfl rfl rfl ?_
  refine r_aload_n 3 0 dX11_push_2 rfl rfl rfl ?_
  refine r_get 6 (aR 181) dX11_push_3 fkX11_85 (fun _ => dsC_180 P W _) nn180 rfl rfl ?_
  refine r_aload_n 7 0 dX11_push_6 rfl rfl rfl ?_
  refine r_get 10 (aI W) dX11_push_7 fkX11_60 (fun _ => dsC_180 P W _) nn180 rfl rfl ?_
  refine r_aload_n 11 0 dX11_push_10 rfl rfl rfl ?_
  refine r_get 14 (aI (G 180 6)) dX11_push_11 fkX11_109 (fun _ => dsC_180 P W _) nn180 rfl rfl ?_
  refine r_imul 15 dX11_push_14 rfl ?_
  refine r_iload_n 16 3 dX11_push_15 rfl rfl rfl ?_
  refine r_acopy 19 0 dX11_push_16 q1475 (Or.inl rfl) (fun h h0 => ialC_c0 P W h h0) (fun h0 => ialC_n0 P W h0) (fun _ _ => dsC_181 P W _) (fun _ => nn181) (Nat.le_of_ble_eq_true rfl) (Nat.le_of_ble_eq_true rfl) rfl rfl ?_
  refine ss_tk (fun G1 => ?_)
  refine r_aload_n 20 0 dX11_push_19 rfl rfl rfl ?_
  refine r_dup 21 dX11_push_20 rfl rfl ?_
  refine r_get 24 (aI (G1 180 6)) dX11_push_21 fkX11_109 (fun _ => dsC_180 P W _) nn180 rfl rfl ?_
  refine r_iconst 25 1 dX11_push_24 rfl rfl ?_
  refine r_iadd 26 dX11_push_25 rfl ?_
  refine r_putI 29 dX11_push_26 fkX11_109 (fun _ => dsC_180 P W _) nn180 rfl rfl ?_
  refine ss_tk (fun G2 => ?_)
  exact r_return dX11_push_29 rfl
theorem c_Bd_push (P W : Int) (x1 : Int) (x2 : Int) (x3 : Int) (G : St) : MG (MBd_push P W) [aR 180, aR x1, aI x2, aI x3] G (Bd_push P W x1 x2 x3 G) := MG.of plX11 (Nat.le_of_ble_eq_true rfl) (s_Bd_push P W x1 x2 x3 G)
theorem s_Bd_settle (P W : Int) (x1 : Int) (x2 : Int) (G : St) : SS (MBd_settle P W) some 0 [(0, aR 180), (1, aI x1), (2, aI x2)] [] G (Bd_settle P W x1 x2 G) := by
  refine r_aload_n 1 0 dX11_settle_0 rfl rfl rfl ?_
  refine r_dup 2 dX11_settle_1 rfl rfl ?_
  refine r_get 5 (aI (G 180 6)) dX11_settle_2 fkX11_109 (fun _ => dsC_180 P W _) nn180 rfl rfl ?_
  refine r_iload_n 6 1 dX11_settle_5 rfl rfl rfl ?_
  refine r_isub 7 dX11_settle_6 rfl ?_
  refine r_putI 10 dX11_settle_7 fkX11_109 (fun _ => dsC_180 P W _) nn180 rfl rfl ?_
  refine ss_tk (fun G1 => ?_)
  refine r_aload_n 11 0 dX11_settle_10 rfl rfl rfl ?_
  refine r_aload_n 12 0 dX11_settle_11 rfl rfl rfl ?_
  refine r_get 15 (aR 207) dX11_settle_12 fkX11_100 (fun _ => dsC_180 P W _) nn180 rfl rfl ?_
  refine r_iconst 16 0 dX11_settle_15 rfl rfl ?_
  refine r_iload_n 17 2 dX11_settle_16 rfl rfl rfl ?_
  refine r_callvV 20 (Mc := MBd_push P W) (o := 180) (as := [aR 207, aI 0, aI x2]) (st := []) dX11_settle_17 rfl (c_Bd_push P W 207 0 x2 G1) lkX11_168 (cmBd_push P W) rfl rfl rfl (fun _ => dsC_180 P W _) nn180 rfl (Nat.le_of_ble_eq_true rfl) (Nat.le_of_ble_eq_true rfl) (fun _ => rfl) rfl (fun z2 G3 => ?_)
  exact r_return dX11_settle_20 rfl
theorem c_Bd_settle (P W : Int) (x1 : Int) (x2 : Int) (G : St) : MG (MBd_settle P W) [aR 180, aI x1, aI x2] G (Bd_settle P W x1 x2 G) := MG.of plX11 (Nat.le_of_ble_eq_true rfl) (s_Bd_settle P W x1 x2 G)
theorem s_Bd_valueOf_b36 (P W : Int) (x1 : Int) (X5 : Int × Int × St → Option (Int × St)) (hX5 : ∀ s, So (MBd_valueOf P W) 5 [(0, aR 180), (1, aI x1), (2, aL (s.1)), (4, aI (s.2.1))] [] s.2.2 (X5 s)) (x4 : Int) (s0 : Int) (s1 : Int) (G : St) : SS (MBd_valueOf P W) (lk X5 some) 36 [(0, aR 180), (1, aI x1), (4, aI x4)] [aL s0, aL s1] G (Bd_valueOf_b36 P W x1 x4 s0 s1 G) := by
  refine r_lor 37 dX11_valueOf_36 rfl ?_
  refine r_lstore_n 38 [(2, aL (j_lor s1 s0)), (0, aR 180), (1, aI x1), (4, aI x4)] dX11_valueOf_37 rfl rfl rfl rfl ?_
  refine r_iinc 41 [(4, aI (x4 + 1)), (2, aL (j_lor s1 s0)), (0, aR 180), (1, aI x1)] 3 dX11_valueOf_38 rfl rfl rfl rfl ?_
  refine r_goto 5 dX11_valueOf_41 rfl ?_
  refine r_to [2, 3, 1, 0] [(0, aR 180), (1, aI x1), (2, aL (j_lor s1 s0)), (4, aI (x4 + 1))] rfl ?_
  exact SS.back (hX5 (j_lor s1 s0, x4 + 1, G))
theorem s_Bd_valueOf_s5 (P W : Int) (x1 : Int) (X5 : Int × Int × St → Option (Int × St)) (hX5 : ∀ s, So (MBd_valueOf P W) 5 [(0, aR 180), (1, aI x1), (2, aL (s.1)), (4, aI (s.2.1))] [] s.2.2 (X5 s)) (x2 : Int) (x4 : Int) (G : St) : SS (MBd_valueOf P W) (lk X5 some) 5 [(0, aR 180), (1, aI x1), (2, aL x2), (4, aI x4)] [] G (Bd_valueOf_s5 P W x1 x2 x4 G) := by
  refine r_iload 7 3 dX11_valueOf_5 rfl rfl ?_
  refine r_aload_n 8 0 dX11_valueOf_7 rfl rfl rfl ?_
  refine r_get 11 (aI W) dX11_valueOf_8 fkX11_60 (fun _ => dsC_180 P W _) nn180 rfl rfl ?_
  refine r_icmp_ge 44 14 dX11_valueOf_11 rfl rfl ?_ ?_
  · refine SS.ex ?_
    refine r_lload_n 45 2 dX11_valueOf_44 rfl rfl rfl ?_
    exact r_lreturn dX11_valueOf_45 rfl
  · refine r_lload_n 15 2 dX11_valueOf_14 rfl rfl rfl ?_
    refine r_aload_n 16 0 dX11_valueOf_15 rfl rfl rfl ?_
    refine r_get 19 (aR 181) dX11_valueOf_16 fkX11_85 (fun _ => dsC_180 P W _) nn180 rfl rfl ?_
    refine r_iload_n 20 1 dX11_valueOf_19 rfl rfl rfl ?_
    refine r_iload 22 3 dX11_valueOf_20 rfl rfl ?_
    refine r_iadd 23 dX11_valueOf_22 rfl ?_
    refine r_iald 24 dX11_valueOf_23 (fun _ _ _ => dsC_181 P W _) (fun _ _ => nn181) rfl ?_
    refine r_iconst 25 (-1) dX11_valueOf_24 rfl rfl ?_
    refine r_icmp_ne 35 28 dX11_valueOf_25 rfl rfl ?_ ?_
    · refine r_lconst 36 0 dX11_valueOf_35 rfl rfl rfl ?_
      refine r_to [0, 1, 3] [(0, aR 180), (1, aI x1), (4, aI x4)] rfl ?_
      exact s_Bd_valueOf_b36 P W x1 X5 hX5 x4 0 x2 G
    · refine r_lconst 29 1 dX11_valueOf_28 rfl rfl rfl ?_
      refine r_iload 31 3 dX11_valueOf_29 rfl rfl ?_
      refine r_lshl 32 dX11_valueOf_31 rfl ?_
      refine r_goto 36 dX11_valueOf_32 rfl ?_
      refine r_to [0, 1, 3] [(0, aR 180), (1, aI x1), (4, aI x4)] rfl ?_
      exact s_Bd_valueOf_b36 P W x1 X5 hX5 x4 (j_lsl 1 x4) x2 G
theorem sl_Bd_valueOf_5 (P W : Int) (x1 : Int) (x2 : Int) (x4 : Int) (G : St) : SS (MBd_valueOf P W) some 5 [(0, aR 180), (1, aI x1), (2, aL x2), (4, aI x4)] [] G (Bd_valueOf_l5 P W x1 x2 x4 G) := by
  exact SS.loop (σ := Int × Int × St) (fun s => [(0, aR 180), (1, aI x1), (2, aL (s.1)), (4, aI (s.2.1))]) (fun s => s.2.2) (fun s => Bd_valueOf_s5 P W x1 s.1 s.2.1 s.2.2) (fun X5 hX5 s => s_Bd_valueOf_s5 P W x1  X5 hX5 s.1 s.2.1 s.2.2) (x2, x4, G)
theorem s_Bd_valueOf (P W : Int) (x1 : Int) (G : St) : SS (MBd_valueOf P W) some 0 [(0, aR 180), (1, aI x1)] [] G (Bd_valueOf P W x1 G) := by
  refine r_lconst 1 0 dX11_valueOf_0 rfl rfl rfl ?_
  refine r_lstore_n 2 [(2, aL 0), (0, aR 180), (1, aI x1)] dX11_valueOf_1 rfl rfl rfl rfl ?_
  refine r_iconst 3 0 dX11_valueOf_2 rfl rfl ?_
  refine r_istore 5 [(4, aI 0), (2, aL 0), (0, aR 180), (1, aI x1)] dX11_valueOf_3 rfl rfl rfl ?_
  refine r_to [2, 3, 1, 0] [(0, aR 180), (1, aI x1), (2, aL 0), (4, aI 0)] rfl ?_
  exact sl_Bd_valueOf_5 P W x1 0 0 G
theorem c_Bd_valueOf (P W : Int) (x1 : Int) (G : St) : MG (MBd_valueOf P W) [aR 180, aI x1] G (Bd_valueOf P W x1 G) := MG.of plX11 (Nat.le_of_ble_eq_true rfl) (s_Bd_valueOf P W x1 G)
theorem s_Ft_is (P W : Int) (G : St) : SS (MFt_is P W) some 0 [(0, aR 130)] [] G (Ft_is G) := by
  refine r_aload_n 1 0 dX4_is_0 rfl rfl rfl ?_
  refine r_get 4 (aI (G 130 0)) dX4_is_1 fkX4_9 (fun _ => dsC_130 P W _) nn130 rfl rfl ?_
  refine SS.phi (fun VV_ => ckB VV_ 2 (some (VV_, G))) ?_
  refine r_if_eq 11 7 dX4_is_4 rfl rfl ?_ ?_
  · refine r_iconst 12 0 dX4_is_11 rfl rfl ?_
    exact r_zreturn dX4_is_12 rfl
  · refine r_iconst 8 1 dX4_is_7 rfl rfl ?_
    refine r_goto 12 dX4_is_8 rfl ?_
    exact r_zreturn dX4_is_12 rfl
theorem c_Ft_is (P W : Int) (G : St) : MG (MFt_is P W) [aR 130] G (Ft_is G) := MG.of plX4 (Nat.le_of_ble_eq_true rfl) (s_Ft_is P W G)
theorem s_Bd_element_b264 (P W : Int) (x2 : Int) (G : St) : SS (MBd_element P W) some 264 [(0, aR 180), (2, aI x2)] [] G (Bd_element_b264 P W x2 G) := by
  refine r_aload_n 265 0 dX11_element_264 rfl rfl rfl ?_
  refine r_iconst 266 1 dX11_element_265 rfl rfl ?_
  refine r_iload_n 267 1 dX11_element_266 rfl rfl rfl ?_
  refine r_callvV 270 (Mc := MBd_settle P W) (o := 180) (as := [aI 1, aI x2]) (st := []) dX11_element_267 rfl (c_Bd_settle P W 1 x2 G) lkX11_303 (cmBd_settle P W) rfl rfl rfl (fun _ => dsC_180 P W _) nn180 rfl (Nat.le_of_ble_eq_true rfl) (Nat.le_of_ble_eq_true rfl) (fun _ => rfl) rfl (fun z5 G6 => ?_)
  exact r_return dX11_element_270 rfl
theorem s_Bd_element_s209 (P W : Int) (x1 : Int) (x2 : Int) (x3 : Int) (x4 : Int) (x5 : Int) (X171 : Int × St → Option (Int × St)) (hX171 : ∀ s, So (MBd_element P W) 171 [(0, aR 180), (1, aI x1), (2, aI x2), (3, aI x3), (4, aI x4), (5, aI x5), (6, aI (s.1))] [] s.2 (X171 s)) (x6 : Int) (x7 : Int) (X209 : Int × St → Option (Int × St)) (hX209 : ∀ s, So (MBd_element P W) 209 [(0, aR 180), (1, aI x1), (2, aI x2), (3, aI x3), (4, aI x4), (5, aI x5), (6, aI x6), (7, aI x7), (8, aI (s.1))] [] s.2 (X209 s)) (x8 : Int) (G : St) : SS (MBd_element P W) (lk X209 (lk X171 some)) 209 [(0, aR 180), (1, aI x1), (2, aI x2), (3, aI x3), (4, aI x4), (5, aI x5), (6, aI x6), (7, aI x7), (8, aI x8)] [] G (Bd_element_s209 P W x1 x2 x3 x4 x5 x6 x7 x8 G) := by
  refine r_iload 211 8 dX11_element_209 rfl rfl ?_
  refine r_iload_n 212 2 dX11_element_211 rfl rfl rfl ?_
  refine r_icmp_ge 258 215 dX11_element_212 rfl rfl ?_ ?_
  · refine SS.ex ?_
    refine r_iinc 261 [(6, aI (x6 + 1)), (0, aR 180), (1, aI x1), (2, aI x2), (3, aI x3), (4, aI x4), (5, aI x5), (7, aI x7), (8, aI x8)] 6 dX11_element_258 rfl rfl rfl rfl ?_
    refine r_goto 171 dX11_element_261 rfl ?_
    refine r_to [1, 2, 3, 4, 5, 6, 0] [(0, aR 180), (1, aI x1), (2, aI x2), (3, aI x3), (4, aI x4), (5, aI x5), (6, aI (x6 + 1))] rfl ?_
    exact SS.back (hX171 (x6 + 1, G))
  · refine r_aload_n 216 0 dX11_element_215 rfl rfl rfl ?_
    refine r_get 219 (aR 207) dX11_element_216 fkX11_100 (fun _ => dsC_180 P W _) nn180 rfl rfl ?_
    refine r_iload 221 8 dX11_element_219 rfl rfl ?_
    refine r_aload_n 222 0 dX11_element_221 rfl rfl rfl ?_
    refine r_get 225 (aR 140) dX11_element_222 fkX11_72 (fun _ => dsC_180 P W _) nn180 rfl rfl ?_
    refine r_aload_n 226 0 dX11_element_225 rfl rfl rfl ?_
    refine r_get 229 (aR 207) dX11_element_226 fkX11_100 (fun _ => dsC_180 P W _) nn180 rfl rfl ?_
    refine r_iload 231 8 dX11_element_229 rfl rfl ?_
    refine r_iald 232 dX11_element_231 (fun _ _ _ => dsC_207 P W _) (fun _ _ => nn207) rfl ?_
    refine r_aload_n 233 0 dX11_element_232 rfl rfl rfl ?_
    refine r_get 236 (aR 140) dX11_element_233 fkX11_72 (fun _ => dsC_180 P W _) nn180 rfl rfl ?_
    refine r_iload 238 7 dX11_element_236 rfl rfl ?_
    refine r_aload_n 239 0 dX11_element_238 rfl rfl rfl ?_
    refine r_get 242 (aR 205) dX11_element_239 fkX11_94 (fun _ => dsC_180 P W _) nn180 rfl rfl ?_
    refine r_iload 244 8 dX11_element_242 rfl rfl ?_
    refine r_iald 245 dX11_element_244 (fun _ _ _ => dsC_205 P W _) (fun _ _ => nn205) rfl ?_
    refine r_callvI 248 (Mc := MCi_and P W) (o := 140) (as := [aI x7, aI (G 205 x8)]) (st := [aI (G 207 x8), aR 140, aI x8, aR 207]) dX11_element_245 rfl (c_Ci_and P W x7 (G 205 x8) G) lkX11_297 (cmCi_and P W) rfl rfl rfl (fun _ => dsC_140 P W _) nn140 rfl (Nat.le_of_ble_eq_true rfl) (Nat.le_of_ble_eq_true rfl) (fun _ => rfl) rfl (fun z11 G12 => ?_)
    refine r_callvI 251 (Mc := MCi_xor P W) (o := 140) (as := [aI (G 207 x8), aI z11]) (st := [aI x8, aR 207]) dX11_element_248 rfl (c_Ci_xor P W (G 207 x8) z11 G12) lkX11_300 (cmCi_xor P W) rfl rfl rfl (fun _ => dsC_140 P W _) nn140 rfl (Nat.le_of_ble_eq_true rfl) (Nat.le_of_ble_eq_true rfl) (fun _ => rfl) rfl (fun z13 G14 => ?_)
    refine r_iast 252 dX11_element_251 (fun _ _ _ => dsC_207 P W _) (fun _ _ => nn207) rfl ?_
    refine ss_tk (fun G15 => ?_)
    refine r_iinc 255 [(8, aI (x8 + 1)), (0, aR 180), (1, aI x1), (2, aI x2), (3, aI x3), (4, aI x4), (5, aI x5), (6, aI x6), (7, aI x7)] 8 dX11_element_252 rfl rfl rfl rfl ?_
    refine r_goto 209 dX11_element_255 rfl ?_
    refine r_to [1, 2, 3, 4, 5, 6, 7, 8, 0] [(0, aR 180), (1, aI x1), (2, aI x2), (3, aI x3), (4, aI x4), (5, aI x5), (6, aI x6), (7, aI x7), (8, aI (x8 + 1))] rfl ?_
    exact SS.back (hX209 (x8 + 1, G15))
theorem sl_Bd_element_209 (P W : Int) (x1 : Int) (x2 : Int) (x3 : Int) (x4 : Int) (x5 : Int) (X171 : Int × St → Option (Int × St)) (hX171 : ∀ s, So (MBd_element P W) 171 [(0, aR 180), (1, aI x1), (2, aI x2), (3, aI x3), (4, aI x4), (5, aI x5), (6, aI (s.1))] [] s.2 (X171 s)) (x6 : Int) (x7 : Int) (x8 : Int) (G : St) : SS (MBd_element P W) (lk X171 some) 209 [(0, aR 180), (1, aI x1), (2, aI x2), (3, aI x3), (4, aI x4), (5, aI x5), (6, aI x6), (7, aI x7), (8, aI x8)] [] G (Bd_element_l209 P W x1 x2 x3 x4 x5 x6 x7 x8 G) := by
  exact SS.loop (σ := Int × St) (fun s => [(0, aR 180), (1, aI x1), (2, aI x2), (3, aI x3), (4, aI x4), (5, aI x5), (6, aI x6), (7, aI x7), (8, aI (s.1))]) (fun s => s.2) (fun s => Bd_element_s209 P W x1 x2 x3 x4 x5 x6 x7 s.1 s.2) (fun X209 hX209 s => s_Bd_element_s209 P W x1 x2 x3 x4 x5 X171 hX171 x6 x7  X209 hX209 s.1 s.2) (x8, G)
theorem s_Bd_element_s171 (P W : Int) (x1 : Int) (x2 : Int) (x3 : Int) (x4 : Int) (x5 : Int) (X171 : Int × St → Option (Int × St)) (hX171 : ∀ s, So (MBd_element P W) 171 [(0, aR 180), (1, aI x1), (2, aI x2), (3, aI x3), (4, aI x4), (5, aI x5), (6, aI (s.1))] [] s.2 (X171 s)) (x6 : Int) (G : St) : SS (MBd_element P W) (lk X171 some) 171 [(0, aR 180), (1, aI x1), (2, aI x2), (3, aI x3), (4, aI x4), (5, aI x5), (6, aI x6)] [] G (Bd_element_s171 P W x1 x2 x3 x4 x5 x6 G) := by
  refine r_iload 173 6 dX11_element_171 rfl rfl ?_
  refine r_iload_n 174 3 dX11_element_173 rfl rfl rfl ?_
  refine r_icmp_ge 264 177 dX11_element_174 rfl rfl ?_ ?_
  · refine SS.ex ?_
    refine r_to [0, 2] [(0, aR 180), (2, aI x2)] rfl ?_
    exact s_Bd_element_b264 P W x2 G
  · refine r_aload_n 178 0 dX11_element_177 rfl rfl rfl ?_
    refine r_iload 180 5 dX11_element_178 rfl rfl ?_
    refine r_iload 182 6 dX11_element_180 rfl rfl ?_
    refine r_callvI 185 (Mc := MBd_isElement P W) (o := 180) (as := [aI x5, aI x6]) (st := []) dX11_element_182 rfl (c_Bd_isElement P W x5 x6 G) lkX11_257 (cmBd_isElement P W) rfl rfl rfl (fun _ => dsC_180 P W _) nn180 rfl (Nat.le_of_ble_eq_true rfl) (Nat.le_of_ble_eq_true rfl) (fun _ => rfl) rfl (fun z7 G8 => ?_)
    refine r_istore 187 [(7, aI z7), (0, aR 180), (1, aI x1), (2, aI x2), (3, aI x3), (4, aI x4), (5, aI x5), (6, aI x6)] dX11_element_185 rfl rfl rfl ?_
    refine r_aload_n 188 1 dX11_element_187 rfl rfl rfl ?_
    refine r_iload 190 5 dX11_element_188 rfl rfl ?_
    refine r_aload_n 191 1 dX11_element_190 rfl rfl rfl ?_
    refine r_get 194 (aR 110) dX11_element_191 fkX11_64 (fun _ => dsC_180 P W _) nn180 rfl rfl ?_
    refine r_get 197 (aR 112) dX11_element_194 fkX11_245 (fun _ => dsC_110 P W _) nn110 rfl rfl ?_
    refine r_iload_n 198 2 dX11_element_197 rfl rfl rfl ?_
    refine r_iald 199 dX11_element_198 (fun _ _ _ => dsC_112 P W _) (fun _ _ => nn112) rfl ?_
    refine r_iload 201 7 dX11_element_199 rfl rfl ?_
    refine r_iadd 202 dX11_element_201 rfl ?_
    refine r_iload_n 203 3 dX11_element_202 rfl rfl rfl ?_
    refine r_callvV 206 (Mc := MBd_fetch P W) (o := 180) (as := [aI x4, aI ((G8 112 x1) + x6), aI x2]) (st := []) dX11_element_203 rfl (c_Bd_fetch P W x4 ((G8 112 x1) + x6) x2 G8) lkX11_293 (cmBd_fetch P W) rfl rfl rfl (fun _ => dsC_180 P W _) nn180 rfl (Nat.le_of_ble_eq_true rfl) (Nat.le_of_ble_eq_true rfl) (fun _ => rfl) rfl (fun z9 G10 => ?_)
    refine r_iconst 207 0 dX11_element_206 rfl rfl ?_
    refine r_istore 209 [(8, aI 0), (7, aI z7), (0, aR 180), (1, aI x1), (2, aI x2), (3, aI x3), (4, aI x4), (5, aI x5), (6, aI x6)] dX11_element_207 rfl rfl rfl ?_
    refine r_to [2, 3, 4, 5, 6, 7, 8, 1, 0] [(0, aR 180), (1, aI x1), (2, aI x2), (3, aI x3), (4, aI x4), (5, aI x5), (6, aI x6), (7, aI z7), (8, aI 0)] rfl ?_
    exact sl_Bd_element_209 P W x1 x2 x3 x4 x5 X171 hX171 x6 z7 0 G10
theorem sl_Bd_element_171 (P W : Int) (x1 : Int) (x2 : Int) (x3 : Int) (x4 : Int) (x5 : Int) (x6 : Int) (G : St) : SS (MBd_element P W) some 171 [(0, aR 180), (1, aI x1), (2, aI x2), (3, aI x3), (4, aI x4), (5, aI x5), (6, aI x6)] [] G (Bd_element_l171 P W x1 x2 x3 x4 x5 x6 G) := by
  exact SS.loop (σ := Int × St) (fun s => [(0, aR 180), (1, aI x1), (2, aI x2), (3, aI x3), (4, aI x4), (5, aI x5), (6, aI (s.1))]) (fun s => s.2) (fun s => Bd_element_s171 P W x1 x2 x3 x4 x5 s.1 s.2) (fun X171 hX171 s => s_Bd_element_s171 P W x1 x2 x3 x4 x5  X171 hX171 s.1 s.2) (x6, G)
theorem s_Bd_element_s147 (P W : Int) (x1 : Int) (x2 : Int) (x3 : Int) (x4 : Int) (x5 : Int) (X147 : Int × St → Option (Int × St)) (hX147 : ∀ s, So (MBd_element P W) 147 [(0, aR 180), (1, aI x1), (2, aI x2), (3, aI x3), (4, aI x4), (5, aI x5), (6, aI (s.1))] [] s.2 (X147 s)) (x6 : Int) (G : St) : SS (MBd_element P W) (lk X147 some) 147 [(0, aR 180), (1, aI x1), (2, aI x2), (3, aI x3), (4, aI x4), (5, aI x5), (6, aI x6)] [] G (Bd_element_s147 P W x1 x2 x3 x4 x5 x6 G) := by
  refine r_iload 149 6 dX11_element_147 rfl rfl ?_
  refine r_iload_n 150 2 dX11_element_149 rfl rfl rfl ?_
  refine r_icmp_ge 168 153 dX11_element_150 rfl rfl ?_ ?_
  · refine SS.ex ?_
    refine r_iconst 169 0 dX11_element_168 rfl rfl ?_
    refine r_istore 171 [(6, aI 0), (0, aR 180), (1, aI x1), (2, aI x2), (3, aI x3), (4, aI x4), (5, aI x5)] dX11_element_169 rfl rfl rfl ?_
    refine r_to [1, 2, 3, 4, 5, 6, 0] [(0, aR 180), (1, aI x1), (2, aI x2), (3, aI x3), (4, aI x4), (5, aI x5), (6, aI 0)] rfl ?_
    exact sl_Bd_element_171 P W x1 x2 x3 x4 x5 0 G
  · refine r_aload_n 154 0 dX11_element_153 rfl rfl rfl ?_
    refine r_get 157 (aR 207) dX11_element_154 fkX11_100 (fun _ => dsC_180 P W _) nn180 rfl rfl ?_
    refine r_iload 159 6 dX11_element_157 rfl rfl ?_
    refine r_bipush 161 (-2) dX11_element_159 rfl rfl ?_
    refine r_iast 162 dX11_element_161 (fun _ _ _ => dsC_207 P W _) (fun _ _ => nn207) rfl ?_
    refine ss_tk (fun G16 => ?_)
    refine r_iinc 165 [(6, aI (x6 + 1)), (0, aR 180), (1, aI x1), (2, aI x2), (3, aI x3), (4, aI x4), (5, aI x5)] 6 dX11_element_162 rfl rfl rfl rfl ?_
    refine r_goto 147 dX11_element_165 rfl ?_
    refine r_to [1, 2, 3, 4, 5, 6, 0] [(0, aR 180), (1, aI x1), (2, aI x2), (3, aI x3), (4, aI x4), (5, aI x5), (6, aI (x6 + 1))] rfl ?_
    exact SS.back (hX147 (x6 + 1, G16))
theorem sl_Bd_element_147 (P W : Int) (x1 : Int) (x2 : Int) (x3 : Int) (x4 : Int) (x5 : Int) (x6 : Int) (G : St) : SS (MBd_element P W) some 147 [(0, aR 180), (1, aI x1), (2, aI x2), (3, aI x3), (4, aI x4), (5, aI x5), (6, aI x6)] [] G (Bd_element_l147 P W x1 x2 x3 x4 x5 x6 G) := by
  exact SS.loop (σ := Int × St) (fun s => [(0, aR 180), (1, aI x1), (2, aI x2), (3, aI x3), (4, aI x4), (5, aI x5), (6, aI (s.1))]) (fun s => s.2) (fun s => Bd_element_s147 P W x1 x2 x3 x4 x5 s.1 s.2) (fun X147 hX147 s => s_Bd_element_s147 P W x1 x2 x3 x4 x5  X147 hX147 s.1 s.2) (x6, G)
theorem s_Bd_element_b49 (P W : Int) (x1 : Int) (x2 : Int) (x3 : Int) (s0 : Int) (G : St) : SS (MBd_element P W) some 49 [(0, aR 180), (1, aI x1), (2, aI x2), (3, aI x3)] [aI s0] G (Bd_element_b49 P W x1 x2 x3 s0 G) := by
  refine r_istore 51 [(4, aI s0), (0, aR 180), (1, aI x1), (2, aI x2), (3, aI x3)] dX11_element_49 rfl rfl rfl ?_
  refine r_aload_n 52 1 dX11_element_51 rfl rfl rfl ?_
  refine r_iconst 53 1 dX11_element_52 rfl rfl ?_
  refine r_callvI 56 (Mc := MBd_place P W) (o := 180) (as := [aI 1]) (st := []) dX11_element_53 rfl (c_Bd_place P W 1 G) lkX11_218 (cmBd_place P W) rfl rfl rfl (fun _ => dsC_180 P W _) nn180 rfl (Nat.le_of_ble_eq_true rfl) (Nat.le_of_ble_eq_true rfl) (fun _ => rfl) rfl (fun z3 G4 => ?_)
  refine r_istore 58 [(5, aI z3), (4, aI s0), (0, aR 180), (1, aI x1), (2, aI x2), (3, aI x3)] dX11_element_56 rfl rfl rfl ?_
  refine r_aload_n 59 2 dX11_element_58 rfl rfl rfl ?_
  refine r_get 62 (aR 110) dX11_element_59 fkX11_64 (fun _ => dsC_180 P W _) nn180 rfl rfl ?_
  refine r_get 65 (aR 114) dX11_element_62 fkX11_200 (fun _ => dsC_110 P W _) nn110 rfl rfl ?_
  refine r_iload_n 66 3 dX11_element_65 rfl rfl rfl ?_
  refine r_iald 67 dX11_element_66 (fun _ _ _ => dsC_114 P W _) (fun _ _ => nn114) rfl ?_
  refine r_iconst 68 2 dX11_element_67 rfl rfl ?_
  refine r_iand 69 dX11_element_68 rfl ?_
  refine r_if_eq 144 72 dX11_element_69 rfl rfl ?_ ?_
  · refine r_iconst 145 0 dX11_element_144 rfl rfl ?_
    refine r_istore 147 [(6, aI 0), (5, aI z3), (4, aI s0), (0, aR 180), (1, aI x1), (2, aI x2), (3, aI x3)] dX11_element_145 rfl rfl rfl ?_
    refine r_to [3, 4, 5, 6, 2, 1, 0] [(0, aR 180), (1, aI x1), (2, aI x2), (3, aI x3), (4, aI s0), (5, aI z3), (6, aI 0)] rfl ?_
    exact sl_Bd_element_147 P W x1 x2 x3 s0 z3 0 G4
  · refine r_aload_n 73 2 dX11_element_72 rfl rfl rfl ?_
    refine r_iload 75 0 dX11_element_73 rfl rfl ?_
    refine r_callvL 78 (Mc := MBd_valueOf P W) (o := 180) (as := [aI z3]) (st := []) dX11_element_75 rfl (c_Bd_valueOf P W z3 G4) lkX11_222 (cmBd_valueOf P W) rfl rfl rfl (fun _ => dsC_180 P W _) nn180 rfl (Nat.le_of_ble_eq_true rfl) (Nat.le_of_ble_eq_true rfl) (fun _ => rfl) rfl (fun z17 G18 => ?_)
    refine r_lstore 80 [(6, aL z17), (5, aI z3), (4, aI s0), (0, aR 180), (1, aI x1), (2, aI x2), (3, aI x3)] dX11_element_78 rfl rfl rfl ?_
    refine r_aload_n 81 3 dX11_element_80 rfl rfl rfl ?_
    refine r_lload 83 0 dX11_element_81 rfl rfl ?_
    refine r_iload_n 84 6 dX11_element_83 rfl rfl rfl ?_
    refine r_aload_n 85 3 dX11_element_84 rfl rfl rfl ?_
    refine r_get 88 (aR 110) dX11_element_85 fkX11_64 (fun _ => dsC_180 P W _) nn180 rfl rfl ?_
    refine r_get 91 (aR 113) dX11_element_88 fkX11_206 (fun _ => dsC_110 P W _) nn110 rfl rfl ?_
    refine r_iload_n 92 4 dX11_element_91 rfl rfl rfl ?_
    refine r_iald 93 dX11_element_92 (fun _ _ _ => dsC_113 P W _) (fun _ _ => nn113) rfl ?_
    refine r_callvV 96 (Mc := MBd_needBelow P W) (o := 180) (as := [aL z17, aI x3, aI (G18 113 x1)]) (st := []) dX11_element_93 rfl (c_Bd_needBelow P W z17 x3 (G18 113 x1) G18) lkX11_226 (cmBd_needBelow P W) rfl rfl rfl (fun _ => dsC_180 P W _) nn180 rfl (Nat.le_of_ble_eq_true rfl) (Nat.le_of_ble_eq_true rfl) (fun _ => rfl) rfl (fun z19 G20 => ?_)
    refine r_aload_n 97 3 dX11_element_96 rfl rfl rfl ?_
    refine r_get 100 (aR 130) dX11_element_97 fkX11_68 (fun _ => dsC_180 P W _) nn180 rfl rfl ?_
    refine r_callvI 103 (Mc := MFt_is P W) (o := 130) (as := []) (st := []) dX11_element_100 rfl (c_Ft_is P W G20) lkX11_144 (cmFt_is P W) rfl rfl rfl (fun _ => dsC_130 P W _) nn130 rfl (Nat.le_of_ble_eq_true rfl) (Nat.le_of_ble_eq_true rfl) (fun _ => rfl) rfl (fun z21 G22 => ?_)
    refine r_if_eq 107 106 dX11_element_103 rfl rfl ?_ ?_
    · refine r_aload_n 108 3 dX11_element_107 rfl rfl rfl ?_
      refine r_iload 110 2 dX11_element_108 rfl rfl ?_
      refine r_aload_n 111 3 dX11_element_110 rfl rfl rfl ?_
      refine r_get 114 (aR 110) dX11_element_111 fkX11_64 (fun _ => dsC_180 P W _) nn180 rfl rfl ?_
      refine r_get 117 (aR 112) dX11_element_114 fkX11_245 (fun _ => dsC_110 P W _) nn110 rfl rfl ?_
      refine r_iload_n 118 4 dX11_element_117 rfl rfl rfl ?_
      refine r_iald 119 dX11_element_118 (fun _ _ _ => dsC_112 P W _) (fun _ _ => nn112) rfl ?_
      refine r_lload 121 0 dX11_element_119 rfl rfl ?_
      refine r_l2iw 122 dX11_element_121 rfl ?_
      refine r_iadd 123 dX11_element_122 rfl ?_
      refine r_iload_n 124 5 dX11_element_123 rfl rfl rfl ?_
      refine r_callvV 127 (Mc := MBd_fetch P W) (o := 180) (as := [aI s0, aI ((G22 112 x1) + (w32 z17)), aI x2]) (st := []) dX11_element_124 rfl (c_Bd_fetch P W s0 ((G22 112 x1) + (w32 z17)) x2 G22) lkX11_293 (cmBd_fetch P W) rfl rfl rfl (fun _ => dsC_180 P W _) nn180 rfl (Nat.le_of_ble_eq_true rfl) (Nat.le_of_ble_eq_true rfl) (fun _ => rfl) rfl (fun z23 G24 => ?_)
      refine r_aload_n 128 3 dX11_element_127 rfl rfl rfl ?_
      refine r_get 131 (aR 205) dX11_element_128 fkX11_94 (fun _ => dsC_180 P W _) nn180 rfl rfl ?_
      refine r_iconst 132 0 dX11_element_131 rfl rfl ?_
      refine r_aload_n 133 3 dX11_element_132 rfl rfl rfl ?_
      refine r_get 136 (aR 207) dX11_element_133 fkX11_100 (fun _ => dsC_180 P W _) nn180 rfl rfl ?_
      refine r_iconst 137 0 dX11_element_136 rfl rfl ?_
      refine r_iload_n 138 5 dX11_element_137 rfl rfl rfl ?_
      refine r_acopy 141 0 dX11_element_138 q1475 (Or.inl rfl) (fun _ _ => dsC_205 P W _) (fun _ => nn205) (fun _ _ => dsC_207 P W _) (fun _ => nn207) (Nat.le_of_ble_eq_true rfl) (Nat.le_of_ble_eq_true rfl) rfl rfl ?_
      refine ss_tk (fun G25 => ?_)
      refine r_goto 264 dX11_element_141 rfl ?_
      refine r_to [3, 5] [(0, aR 180), (2, aI x2)] rfl ?_
      exact s_Bd_element_b264 P W x2 G25
    · exact r_return dX11_element_106 rfl
theorem s_Bd_element (P W : Int) (x1 : Int) (G : St) : SS (MBd_element P W) some 0 [(0, aR 180), (1, aI x1)] [] G (Bd_element P W x1 G) := by
  refine r_aload_n 1 0 dX11_element_0 rfl rfl rfl ?_
  refine r_aload_n 2 0 dX11_element_1 rfl rfl rfl ?_
  refine r_get 5 (aR 110) dX11_element_2 fkX11_64 (fun _ => dsC_180 P W _) nn180 rfl rfl ?_
  refine r_get 8 (aR 114) dX11_element_5 fkX11_200 (fun _ => dsC_110 P W _) nn110 rfl rfl ?_
  refine r_iload_n 9 1 dX11_element_8 rfl rfl rfl ?_
  refine r_iald 10 dX11_element_9 (fun _ _ _ => dsC_114 P W _) (fun _ _ => nn114) rfl ?_
  refine r_iconst 11 1 dX11_element_10 rfl rfl ?_
  refine r_iand 12 dX11_element_11 rfl ?_
  refine r_callvI 15 (Mc := MBd_bits P W) (o := 180) (as := [aI (j_an (G 114 x1) 1)]) (st := []) dX11_element_12 rfl (c_Bd_bits P W (j_an (G 114 x1) 1) G) lkX11_248 (cmBd_bits P W) rfl rfl rfl (fun _ => dsC_180 P W _) nn180 rfl (Nat.le_of_ble_eq_true rfl) (Nat.le_of_ble_eq_true rfl) (fun _ => rfl) rfl (fun z1 G2 => ?_)
  refine r_istore_n 16 [(2, aI z1), (0, aR 180), (1, aI x1)] dX11_element_15 rfl rfl rfl rfl ?_
  refine r_aload_n 17 1 dX11_element_16 rfl rfl rfl ?_
  refine r_get 20 (aR 110) dX11_element_17 fkX11_64 (fun _ => dsC_180 P W _) nn180 rfl rfl ?_
  refine r_get 23 (aR 114) dX11_element_20 fkX11_200 (fun _ => dsC_110 P W _) nn110 rfl rfl ?_
  refine r_iload_n 24 2 dX11_element_23 rfl rfl rfl ?_
  refine r_iald 25 dX11_element_24 (fun _ _ _ => dsC_114 P W _) (fun _ _ => nn114) rfl ?_
  refine r_sipush 28 512 dX11_element_25 rfl rfl ?_
  refine r_idiv 29 dX11_element_28 rfl ?_
  refine r_istore_n 30 [(3, aI ((G2 114 x1) / 512)), (2, aI z1), (0, aR 180), (1, aI x1)] dX11_element_29 rfl rfl rfl rfl ?_
  refine r_aload_n 31 2 dX11_element_30 rfl rfl rfl ?_
  refine r_get 34 (aR 110) dX11_element_31 fkX11_64 (fun _ => dsC_180 P W _) nn180 rfl rfl ?_
  refine r_get 37 (aR 114) dX11_element_34 fkX11_200 (fun _ => dsC_110 P W _) nn110 rfl rfl ?_
  refine r_iload_n 38 3 dX11_element_37 rfl rfl rfl ?_
  refine r_iald 39 dX11_element_38 (fun _ _ _ => dsC_114 P W _) (fun _ _ => nn114) rfl ?_
  refine r_iconst 40 4 dX11_element_39 rfl rfl ?_
  refine r_iand 41 dX11_element_40 rfl ?_
  refine SS.phi (fun VV_ => Bd_element_b49 P W x1 z1 ((G2 114 x1) / 512) VV_ G2) ?_
  refine r_if_eq 48 44 dX11_element_41 rfl rfl ?_ ?_
  · refine r_iconst 49 0 dX11_element_48 rfl rfl ?_
    refine r_to [2, 3, 1, 0] [(0, aR 180), (1, aI x1), (2, aI z1), (3, aI ((G2 114 x1) / 512))] rfl ?_
    exact s_Bd_element_b49 P W x1 z1 ((G2 114 x1) / 512) 0 G2
  · refine r_iconst 45 1 dX11_element_44 rfl rfl ?_
    refine r_goto 49 dX11_element_45 rfl ?_
    refine r_to [2, 3, 1, 0] [(0, aR 180), (1, aI x1), (2, aI z1), (3, aI ((G2 114 x1) / 512))] rfl ?_
    exact s_Bd_element_b49 P W x1 z1 ((G2 114 x1) / 512) 1 G2
theorem c_Bd_element (P W : Int) (x1 : Int) (G : St) : MG (MBd_element P W) [aR 180, aI x1] G (Bd_element P W x1 G) := MG.of plX11 (Nat.le_of_ble_eq_true rfl) (s_Bd_element P W x1 G)
theorem s_Bd_pushBit (P W : Int) (x1 : Int) (G : St) : SS (MBd_pushBit P W) some 0 [(0, aR 180), (1, aI x1)] [] G (Bd_pushBit P W x1 G) := by
  refine r_aload_n 1 0 dX11_pushBit_0 rfl rfl rfl ?_
  refine r_get 4 (aR 181) dX11_pushBit_1 fkX11_85 (fun _ => dsC_180 P W _) nn180 rfl rfl ?_
  refine r_aload_n 5 0 dX11_pushBit_4 rfl rfl rfl ?_
  refine r_get 8 (aI W) dX11_pushBit_5 fkX11_60 (fun _ => dsC_180 P W _) nn180 rfl rfl ?_
  refine r_aload_n 9 0 dX11_pushBit_8 rfl rfl rfl ?_
  refine r_get 12 (aI (G 180 6)) dX11_pushBit_9 fkX11_109 (fun _ => dsC_180 P W _) nn180 rfl rfl ?_
  refine r_imul 13 dX11_pushBit_12 rfl ?_
  refine r_iload_n 14 1 dX11_pushBit_13 rfl rfl rfl ?_
  refine r_iast 15 dX11_pushBit_14 (fun _ _ _ => dsC_181 P W _) (fun _ _ => nn181) rfl ?_
  refine ss_tk (fun G1 => ?_)
  refine r_aload_n 16 0 dX11_pushBit_15 rfl rfl rfl ?_
  refine r_dup 17 dX11_pushBit_16 rfl rfl ?_
  refine r_get 20 (aI (G1 180 6)) dX11_pushBit_17 fkX11_109 (fun _ => dsC_180 P W _) nn180 rfl rfl ?_
  refine r_iconst 21 1 dX11_pushBit_20 rfl rfl ?_
  refine r_iadd 22 dX11_pushBit_21 rfl ?_
  refine r_putI 25 dX11_pushBit_22 fkX11_109 (fun _ => dsC_180 P W _) nn180 rfl rfl ?_
  refine ss_tk (fun G2 => ?_)
  exact r_return dX11_pushBit_25 rfl
theorem c_Bd_pushBit (P W : Int) (x1 : Int) (G : St) : MG (MBd_pushBit P W) [aR 180, aI x1] G (Bd_pushBit P W x1 G) := MG.of plX11 (Nat.le_of_ble_eq_true rfl) (s_Bd_pushBit P W x1 G)
theorem s_Bd_read (P W : Int) (x1 : Int) (G : St) : SS (MBd_read P W) some 0 [(0, aR 180), (1, aI x1)] [] G (Bd_read P W x1 G) := by
  refine r_aload_n 1 0 dX11_read_0 rfl rfl rfl ?_
  refine r_get 4 (aR 110) dX11_read_1 fkX11_64 (fun _ => dsC_180 P W _) nn180 rfl rfl ?_
  refine r_get 7 (aR 114) dX11_read_4 fkX11_200 (fun _ => dsC_110 P W _) nn110 rfl rfl ?_
  refine r_iload_n 8 1 dX11_read_7 rfl rfl rfl ?_
  refine r_iald 9 dX11_read_8 (fun _ _ _ => dsC_114 P W _) (fun _ _ => nn114) rfl ?_
  refine r_iconst 10 2 dX11_read_9 rfl rfl ?_
  refine r_idiv 11 dX11_read_10 rfl ?_
  refine r_istore_n 12 [(2, aI ((G 114 x1) / 2)), (0, aR 180), (1, aI x1)] dX11_read_11 rfl rfl rfl rfl ?_
  refine r_aload_n 13 1 dX11_read_12 rfl rfl rfl ?_
  refine r_get 16 (aR 110) dX11_read_13 fkX11_64 (fun _ => dsC_180 P W _) nn180 rfl rfl ?_
  refine r_get 19 (aR 112) dX11_read_16 fkX11_245 (fun _ => dsC_110 P W _) nn110 rfl rfl ?_
  refine r_iload_n 20 2 dX11_read_19 rfl rfl rfl ?_
  refine r_iald 21 dX11_read_20 (fun _ _ _ => dsC_112 P W _) (fun _ _ => nn112) rfl ?_
  refine r_istore_n 22 [(3, aI (G 112 x1)), (2, aI ((G 114 x1) / 2)), (0, aR 180), (1, aI x1)] dX11_read_21 rfl rfl rfl rfl ?_
  refine r_aload_n 23 2 dX11_read_22 rfl rfl rfl ?_
  refine r_aload_n 24 2 dX11_read_23 rfl rfl rfl ?_
  refine r_get 27 (aR 110) dX11_read_24 fkX11_64 (fun _ => dsC_180 P W _) nn180 rfl rfl ?_
  refine r_get 30 (aR 114) dX11_read_27 fkX11_200 (fun _ => dsC_110 P W _) nn110 rfl rfl ?_
  refine r_iload_n 31 3 dX11_read_30 rfl rfl rfl ?_
  refine r_iald 32 dX11_read_31 (fun _ _ _ => dsC_114 P W _) (fun _ _ => nn114) rfl ?_
  refine r_iconst 33 1 dX11_read_32 rfl rfl ?_
  refine r_iand 34 dX11_read_33 rfl ?_
  refine r_callvI 37 (Mc := MBd_bits P W) (o := 180) (as := [aI (j_an (G 114 x1) 1)]) (st := []) dX11_read_34 rfl (c_Bd_bits P W (j_an (G 114 x1) 1) G) lkX11_248 (cmBd_bits P W) rfl rfl rfl (fun _ => dsC_180 P W _) nn180 rfl (Nat.le_of_ble_eq_true rfl) (Nat.le_of_ble_eq_true rfl) (fun _ => rfl) rfl (fun z1 G2 => ?_)
  refine r_istore 39 [(4, aI z1), (3, aI (G 112 x1)), (2, aI ((G 114 x1) / 2)), (0, aR 180), (1, aI x1)] dX11_read_37 rfl rfl rfl ?_
  refine r_iload_n 40 2 dX11_read_39 rfl rfl rfl ?_
  refine r_iconst 41 1 dX11_read_40 rfl rfl ?_
  refine r_icmp_ne 63 44 dX11_read_41 rfl rfl ?_ ?_
  · refine r_iload_n 64 2 dX11_read_63 rfl rfl rfl ?_
    refine r_if_ne 88 67 dX11_read_64 rfl rfl ?_ ?_
    · refine r_iload_n 89 2 dX11_read_88 rfl rfl rfl ?_
      refine r_iconst 90 2 dX11_read_89 rfl rfl ?_
      refine r_icmp_ne 123 93 dX11_read_90 rfl rfl ?_ ?_
      · refine r_aload_n 124 3 dX11_read_123 rfl rfl rfl ?_
        refine r_aload_n 125 3 dX11_read_124 rfl rfl rfl ?_
        refine r_get 128 (aR 181) dX11_read_125 fkX11_85 (fun _ => dsC_180 P W _) nn180 rfl rfl ?_
        refine r_aload_n 129 3 dX11_read_128 rfl rfl rfl ?_
        refine r_get 132 (aI W) dX11_read_129 fkX11_60 (fun _ => dsC_180 P W _) nn180 rfl rfl ?_
        refine r_aload_n 133 3 dX11_read_132 rfl rfl rfl ?_
        refine r_get 136 (aR 202) dX11_read_133 fkX11_54 (fun _ => dsC_180 P W _) nn180 rfl rfl ?_
        refine r_aload_n 137 3 dX11_read_136 rfl rfl rfl ?_
        refine r_get 140 (aI (G2 180 29)) dX11_read_137 fkX11_130 (fun _ => dsC_180 P W _) nn180 rfl rfl ?_
        refine r_iconst 141 1 dX11_read_140 rfl rfl ?_
        refine r_isub 142 dX11_read_141 rfl ?_
        refine r_iald 143 dX11_read_142 (fun _ _ _ => dsC_202 P W _) (fun _ _ => nn202) rfl ?_
        refine r_iload_n 144 1 dX11_read_143 rfl rfl rfl ?_
        refine r_iadd 145 dX11_read_144 rfl ?_
        refine r_imul 146 dX11_read_145 rfl ?_
        refine r_iload 148 0 dX11_read_146 rfl rfl ?_
        refine r_callvV 151 (Mc := MBd_push P W) (o := 180) (as := [aR 181, aI (W * ((G2 202 ((G2 180 29) - 1)) + (G 112 x1))), aI z1]) (st := []) dX11_read_148 rfl (c_Bd_push P W 181 (W * ((G2 202 ((G2 180 29) - 1)) + (G 112 x1))) z1 G2) lkX11_168 (cmBd_push P W) rfl rfl rfl (fun _ => dsC_180 P W _) nn180 rfl (Nat.le_of_ble_eq_true rfl) (Nat.le_of_ble_eq_true rfl) (fun _ => rfl) rfl (fun z3 G4 => ?_)
        exact r_return dX11_read_151 rfl
      · refine r_aload_n 94 3 dX11_read_93 rfl rfl rfl ?_
        refine r_aload_n 95 3 dX11_read_94 rfl rfl rfl ?_
        refine r_get 98 (aR 205) dX11_read_95 fkX11_94 (fun _ => dsC_180 P W _) nn180 rfl rfl ?_
        refine r_aload_n 99 3 dX11_read_98 rfl rfl rfl ?_
        refine r_get 102 (aR 198) dX11_read_99 fkX11_41 (fun _ => dsC_180 P W _) nn180 rfl rfl ?_
        refine r_iload_n 103 1 dX11_read_102 rfl rfl rfl ?_
        refine r_lald 104 dX11_read_103 (fun _ _ _ => dsC_198 P W _) (fun _ _ => nn198) rfl ?_
        refine r_callvV 107 (Mc := MBd_constant P W) (o := 180) (as := [aR 205, aL (G2 198 (G 112 x1))]) (st := []) dX11_read_104 rfl (c_Bd_constant P W (G2 198 (G 112 x1)) G2) lkX11_264 (cmBd_constant P W) rfl rfl rfl (fun _ => dsC_180 P W _) nn180 rfl (Nat.le_of_ble_eq_true rfl) (Nat.le_of_ble_eq_true rfl) (fun _ => rfl) rfl (fun z5 G6 => ?_)
        refine r_aload_n 108 3 dX11_read_107 rfl rfl rfl ?_
        refine r_aload_n 109 3 dX11_read_108 rfl rfl rfl ?_
        refine r_get 112 (aR 205) dX11_read_109 fkX11_94 (fun _ => dsC_180 P W _) nn180 rfl rfl ?_
        refine r_iconst 113 0 dX11_read_112 rfl rfl ?_
        refine r_aload_n 114 3 dX11_read_113 rfl rfl rfl ?_
        refine r_get 117 (aI W) dX11_read_114 fkX11_60 (fun _ => dsC_180 P W _) nn180 rfl rfl ?_
        refine r_callvV 120 (Mc := MBd_push P W) (o := 180) (as := [aR 205, aI 0, aI W]) (st := []) dX11_read_117 rfl (c_Bd_push P W 205 0 W G6) lkX11_168 (cmBd_push P W) rfl rfl rfl (fun _ => dsC_180 P W _) nn180 rfl (Nat.le_of_ble_eq_true rfl) (Nat.le_of_ble_eq_true rfl) (fun _ => rfl) rfl (fun z7 G8 => ?_)
        refine r_goto 151 dX11_read_120 rfl ?_
        exact r_return dX11_read_151 rfl
    · refine r_aload_n 68 3 dX11_read_67 rfl rfl rfl ?_
      refine r_iload_n 69 1 dX11_read_68 rfl rfl rfl ?_
      refine r_iload 71 0 dX11_read_69 rfl rfl ?_
      refine r_callvV 74 (Mc := MBd_inputWord P W) (o := 180) (as := [aI (G 112 x1), aI z1]) (st := []) dX11_read_71 rfl (c_Bd_inputWord P W (G 112 x1) z1 G2) lkX11_290 (cmBd_inputWord P W) rfl rfl rfl (fun _ => dsC_180 P W _) nn180 rfl (Nat.le_of_ble_eq_true rfl) (Nat.le_of_ble_eq_true rfl) (fun _ => rfl) rfl (fun z9 G10 => ?_)
      refine r_aload_n 75 3 dX11_read_74 rfl rfl rfl ?_
      refine r_aload_n 76 3 dX11_read_75 rfl rfl rfl ?_
      refine r_get 79 (aR 205) dX11_read_76 fkX11_94 (fun _ => dsC_180 P W _) nn180 rfl rfl ?_
      refine r_iconst 80 0 dX11_read_79 rfl rfl ?_
      refine r_iload 82 0 dX11_read_80 rfl rfl ?_
      refine r_callvV 85 (Mc := MBd_push P W) (o := 180) (as := [aR 205, aI 0, aI z1]) (st := []) dX11_read_82 rfl (c_Bd_push P W 205 0 z1 G10) lkX11_168 (cmBd_push P W) rfl rfl rfl (fun _ => dsC_180 P W _) nn180 rfl (Nat.le_of_ble_eq_true rfl) (Nat.le_of_ble_eq_true rfl) (fun _ => rfl) rfl (fun z11 G12 => ?_)
      refine r_goto 151 dX11_read_85 rfl ?_
      exact r_return dX11_read_151 rfl
  · refine r_aload_n 45 3 dX11_read_44 rfl rfl rfl ?_
    refine r_aload_n 46 3 dX11_read_45 rfl rfl rfl ?_
    refine r_get 49 (aR 185) dX11_read_46 fkX11_88 (fun _ => dsC_180 P W _) nn180 rfl rfl ?_
    refine r_aload_n 50 3 dX11_read_49 rfl rfl rfl ?_
    refine r_get 53 (aI W) dX11_read_50 fkX11_60 (fun _ => dsC_180 P W _) nn180 rfl rfl ?_
    refine r_iload_n 54 1 dX11_read_53 rfl rfl rfl ?_
    refine r_imul 55 dX11_read_54 rfl ?_
    refine r_iload 57 0 dX11_read_55 rfl rfl ?_
    refine r_callvV 60 (Mc := MBd_push P W) (o := 180) (as := [aR 185, aI (W * (G 112 x1)), aI z1]) (st := []) dX11_read_57 rfl (c_Bd_push P W 185 (W * (G 112 x1)) z1 G2) lkX11_168 (cmBd_push P W) rfl rfl rfl (fun _ => dsC_180 P W _) nn180 rfl (Nat.le_of_ble_eq_true rfl) (Nat.le_of_ble_eq_true rfl) (fun _ => rfl) rfl (fun z13 G14 => ?_)
    refine r_goto 151 dX11_read_60 rfl ?_
    exact r_return dX11_read_151 rfl
theorem c_Bd_read (P W : Int) (x1 : Int) (G : St) : MG (MBd_read P W) [aR 180, aI x1] G (Bd_read P W x1 G) := MG.of plX11 (Nat.le_of_ble_eq_true rfl) (s_Bd_read P W x1 G)
theorem s_Bd_factor_b88 (P W : Int) (x1 : Int) (G : St) : SS (MBd_factor P W) some 88 [(0, aR 180), (1, aI x1)] [] G (Bd_factor_b88 P W x1 G) := by
  refine r_aload_n 89 0 dX11_factor_88 rfl rfl rfl ?_
  refine r_callvV 92 (Mc := MBd_count P W) (o := 180) (as := []) (st := []) dX11_factor_89 rfl (c_Bd_count P W G) lkX11_209 (cmBd_count P W) rfl rfl rfl (fun _ => dsC_180 P W _) nn180 rfl (Nat.le_of_ble_eq_true rfl) (Nat.le_of_ble_eq_true rfl) (fun _ => rfl) rfl (fun z1 G2 => ?_)
  refine r_aload_n 93 0 dX11_factor_92 rfl rfl rfl ?_
  refine r_aload_n 94 0 dX11_factor_93 rfl rfl rfl ?_
  refine r_get 97 (aR 205) dX11_factor_94 fkX11_94 (fun _ => dsC_180 P W _) nn180 rfl rfl ?_
  refine r_aload_n 98 0 dX11_factor_97 rfl rfl rfl ?_
  refine r_get 101 (aR 110) dX11_factor_98 fkX11_64 (fun _ => dsC_180 P W _) nn180 rfl rfl ?_
  refine r_get 104 (aR 112) dX11_factor_101 fkX11_245 (fun _ => dsC_110 P W _) nn110 rfl rfl ?_
  refine r_iload_n 105 1 dX11_factor_104 rfl rfl rfl ?_
  refine r_iald 106 dX11_factor_105 (fun _ _ _ => dsC_112 P W _) (fun _ _ => nn112) rfl ?_
  refine r_i2l 107 dX11_factor_106 rfl ?_
  refine r_ldc2 110 4294967295 dX11_factor_107 q1544 (by decide) rfl rfl ?_
  refine r_land 111 dX11_factor_110 rfl ?_
  refine r_callvV 114 (Mc := MBd_constant P W) (o := 180) (as := [aR 205, aL (j_lan (G2 112 x1) 4294967295)]) (st := []) dX11_factor_111 rfl (c_Bd_constant P W (j_lan (G2 112 x1) 4294967295) G2) lkX11_264 (cmBd_constant P W) rfl rfl rfl (fun _ => dsC_180 P W _) nn180 rfl (Nat.le_of_ble_eq_true rfl) (Nat.le_of_ble_eq_true rfl) (fun _ => rfl) rfl (fun z3 G4 => ?_)
  refine r_aload_n 115 0 dX11_factor_114 rfl rfl rfl ?_
  refine r_aload_n 116 0 dX11_factor_115 rfl rfl rfl ?_
  refine r_get 119 (aR 205) dX11_factor_116 fkX11_94 (fun _ => dsC_180 P W _) nn180 rfl rfl ?_
  refine r_iconst 120 0 dX11_factor_119 rfl rfl ?_
  refine r_aload_n 121 0 dX11_factor_120 rfl rfl rfl ?_
  refine r_get 124 (aI W) dX11_factor_121 fkX11_60 (fun _ => dsC_180 P W _) nn180 rfl rfl ?_
  refine r_callvV 127 (Mc := MBd_push P W) (o := 180) (as := [aR 205, aI 0, aI W]) (st := []) dX11_factor_124 rfl (c_Bd_push P W 205 0 W G4) lkX11_168 (cmBd_push P W) rfl rfl rfl (fun _ => dsC_180 P W _) nn180 rfl (Nat.le_of_ble_eq_true rfl) (Nat.le_of_ble_eq_true rfl) (fun _ => rfl) rfl (fun z5 G6 => ?_)
  refine r_goto 350 dX11_factor_127 rfl ?_
  exact r_return dX11_factor_350 rfl
theorem s_Bd_factor_b148 (P W : Int) (s0 : Int) (G : St) : SS (MBd_factor P W) some 148 [] [aI s0, aR 180] G (Bd_factor_b148 P W s0 G) := by
  refine r_callvV 151 (Mc := MBd_pushBit P W) (o := 180) (as := [aI s0]) (st := []) dX11_factor_148 rfl (c_Bd_pushBit P W s0 G) lkX11_279 (cmBd_pushBit P W) rfl rfl rfl (fun _ => dsC_180 P W _) nn180 rfl (Nat.le_of_ble_eq_true rfl) (Nat.le_of_ble_eq_true rfl) (fun _ => rfl) rfl (fun z9 G10 => ?_)
  refine r_goto 350 dX11_factor_151 rfl ?_
  exact r_return dX11_factor_350 rfl
theorem s_Bd_factor_b130 (P W : Int) (x2 : Int) (G : St) : SS (MBd_factor P W) some 130 [(0, aR 180), (2, aR x2)] [] G (Bd_factor_b130 P W x2 G) := by
  refine r_aload_n 131 0 dX11_factor_130 rfl rfl rfl ?_
  refine r_callvV 134 (Mc := MBd_count P W) (o := 180) (as := []) (st := []) dX11_factor_131 rfl (c_Bd_count P W G) lkX11_209 (cmBd_count P W) rfl rfl rfl (fun _ => dsC_180 P W _) nn180 rfl (Nat.le_of_ble_eq_true rfl) (Nat.le_of_ble_eq_true rfl) (fun _ => rfl) rfl (fun z7 G8 => ?_)
  refine r_aload_n 135 0 dX11_factor_134 rfl rfl rfl ?_
  refine r_aload_n 136 1 dX11_factor_135 rfl rfl rfl ?_
  refine r_gets 139 23 dX11_factor_136 q1549 rfl rfl ?_
  refine r_acmp_ne 146 142 dX11_factor_139 rfl rfl ?_ ?_
  · refine r_bipush 148 (-2) dX11_factor_146 rfl rfl ?_
    refine r_to [] [] rfl ?_
    exact s_Bd_factor_b148 P W (-2) G8
  · refine r_iconst 143 (-1) dX11_factor_142 rfl rfl ?_
    refine r_goto 148 dX11_factor_143 rfl ?_
    refine r_to [] [] rfl ?_
    exact s_Bd_factor_b148 P W (-1) G8
theorem s_Bd_factor_b154 (P W : Int) (x1 : Int) (G : St) : SS (MBd_factor P W) some 154 [(0, aR 180), (1, aI x1)] [] G (Bd_factor_b154 P W x1 G) := by
  refine r_aload_n 155 0 dX11_factor_154 rfl rfl rfl ?_
  refine r_callvV 158 (Mc := MBd_count P W) (o := 180) (as := []) (st := []) dX11_factor_155 rfl (c_Bd_count P W G) lkX11_209 (cmBd_count P W) rfl rfl rfl (fun _ => dsC_180 P W _) nn180 rfl (Nat.le_of_ble_eq_true rfl) (Nat.le_of_ble_eq_true rfl) (fun _ => rfl) rfl (fun z11 G12 => ?_)
  refine r_aload_n 159 0 dX11_factor_158 rfl rfl rfl ?_
  refine r_iload_n 160 1 dX11_factor_159 rfl rfl rfl ?_
  refine r_callvV 163 (Mc := MBd_read P W) (o := 180) (as := [aI x1]) (st := []) dX11_factor_160 rfl (c_Bd_read P W x1 G12) lkX11_282 (cmBd_read P W) rfl rfl rfl (fun _ => dsC_180 P W _) nn180 rfl (Nat.le_of_ble_eq_true rfl) (Nat.le_of_ble_eq_true rfl) (fun _ => rfl) rfl (fun z13 G14 => ?_)
  refine r_goto 350 dX11_factor_163 rfl ?_
  exact r_return dX11_factor_350 rfl
theorem s_Bd_factor_b166 (P W : Int) (G : St) : SS (MBd_factor P W) some 166 [(0, aR 180)] [] G (Bd_factor_b166 P W G) := by
  refine r_aload_n 167 0 dX11_factor_166 rfl rfl rfl ?_
  refine r_callvV 170 (Mc := MBd_count P W) (o := 180) (as := []) (st := []) dX11_factor_167 rfl (c_Bd_count P W G) lkX11_209 (cmBd_count P W) rfl rfl rfl (fun _ => dsC_180 P W _) nn180 rfl (Nat.le_of_ble_eq_true rfl) (Nat.le_of_ble_eq_true rfl) (fun _ => rfl) rfl (fun z15 G16 => ?_)
  refine r_goto 350 dX11_factor_170 rfl ?_
  exact r_return dX11_factor_350 rfl
theorem s_Bd_factor_b173 (P W : Int) (x1 : Int) (G : St) : SS (MBd_factor P W) some 173 [(0, aR 180), (1, aI x1)] [] G (Bd_factor_b173 P W x1 G) := by
  refine r_aload_n 174 0 dX11_factor_173 rfl rfl rfl ?_
  refine r_iload_n 175 1 dX11_factor_174 rfl rfl rfl ?_
  refine r_callvV 178 (Mc := MBd_element P W) (o := 180) (as := [aI x1]) (st := []) dX11_factor_175 rfl (c_Bd_element P W x1 G) lkX11_285 (cmBd_element P W) rfl rfl rfl (fun _ => dsC_180 P W _) nn180 rfl (Nat.le_of_ble_eq_true rfl) (Nat.le_of_ble_eq_true rfl) (fun _ => rfl) rfl (fun z17 G18 => ?_)
  refine r_goto 350 dX11_factor_178 rfl ?_
  exact r_return dX11_factor_350 rfl
theorem s_Bd_factor_b181 (P W : Int) (x1 : Int) (G : St) : SS (MBd_factor P W) some 181 [(0, aR 180), (1, aI x1)] [] G (Bd_factor_b181 P W x1 G) := by
  refine r_aload_n 182 0 dX11_factor_181 rfl rfl rfl ?_
  refine r_get 185 (aR 201) dX11_factor_182 fkX11_51 (fun _ => dsC_180 P W _) nn180 rfl rfl ?_
  refine r_aload_n 186 0 dX11_factor_185 rfl rfl rfl ?_
  refine r_get 189 (aI (G 180 29)) dX11_factor_186 fkX11_130 (fun _ => dsC_180 P W _) nn180 rfl rfl ?_
  refine r_aload_n 190 0 dX11_factor_189 rfl rfl rfl ?_
  refine r_get 193 (aI (G 180 7)) dX11_factor_190 fkX11_136 (fun _ => dsC_180 P W _) nn180 rfl rfl ?_
  refine r_iast 194 dX11_factor_193 (fun _ _ _ => dsC_201 P W _) (fun _ _ => nn201) rfl ?_
  refine ss_tk (fun G19 => ?_)
  refine r_aload_n 195 0 dX11_factor_194 rfl rfl rfl ?_
  refine r_get 198 (aR 202) dX11_factor_195 fkX11_54 (fun _ => dsC_180 P W _) nn180 rfl rfl ?_
  refine r_aload_n 199 0 dX11_factor_198 rfl rfl rfl ?_
  refine r_get 202 (aI (G19 180 29)) dX11_factor_199 fkX11_130 (fun _ => dsC_180 P W _) nn180 rfl rfl ?_
  refine r_aload_n 203 0 dX11_factor_202 rfl rfl rfl ?_
  refine r_get 206 (aI (G19 180 6)) dX11_factor_203 fkX11_109 (fun _ => dsC_180 P W _) nn180 rfl rfl ?_
  refine r_aload_n 207 0 dX11_factor_206 rfl rfl rfl ?_
  refine r_get 210 (aR 110) dX11_factor_207 fkX11_64 (fun _ => dsC_180 P W _) nn180 rfl rfl ?_
  refine r_get 213 (aR 114) dX11_factor_210 fkX11_200 (fun _ => dsC_110 P W _) nn110 rfl rfl ?_
  refine r_iload_n 214 1 dX11_factor_213 rfl rfl rfl ?_
  refine r_iald 215 dX11_factor_214 (fun _ _ _ => dsC_114 P W _) (fun _ _ => nn114) rfl ?_
  refine r_isub 216 dX11_factor_215 rfl ?_
  refine r_iast 217 dX11_factor_216 (fun _ _ _ => dsC_202 P W _) (fun _ _ => nn202) rfl ?_
  refine ss_tk (fun G20 => ?_)
  refine r_aload_n 218 0 dX11_factor_217 rfl rfl rfl ?_
  refine r_dup 219 dX11_factor_218 rfl rfl ?_
  refine r_get 222 (aI (G20 180 29)) dX11_factor_219 fkX11_130 (fun _ => dsC_180 P W _) nn180 rfl rfl ?_
  refine r_iconst 223 1 dX11_factor_222 rfl rfl ?_
  refine r_iadd 224 dX11_factor_223 rfl ?_
  refine r_putI 227 dX11_factor_224 fkX11_130 (fun _ => dsC_180 P W _) nn180 rfl rfl ?_
  refine ss_tk (fun G21 => ?_)
  refine r_aload_n 228 0 dX11_factor_227 rfl rfl rfl ?_
  refine r_aload_n 229 0 dX11_factor_228 rfl rfl rfl ?_
  refine r_get 232 (aR 200) dX11_factor_229 fkX11_48 (fun _ => dsC_180 P W _) nn180 rfl rfl ?_
  refine r_aload_n 233 0 dX11_factor_232 rfl rfl rfl ?_
  refine r_get 236 (aR 110) dX11_factor_233 fkX11_64 (fun _ => dsC_180 P W _) nn180 rfl rfl ?_
  refine r_get 239 (aR 112) dX11_factor_236 fkX11_245 (fun _ => dsC_110 P W _) nn110 rfl rfl ?_
  refine r_iload_n 240 1 dX11_factor_239 rfl rfl rfl ?_
  refine r_iald 241 dX11_factor_240 (fun _ _ _ => dsC_112 P W _) (fun _ _ => nn112) rfl ?_
  refine r_iald 242 dX11_factor_241 (fun _ _ _ => dsC_200 P W _) (fun _ _ => nn200) rfl ?_
  refine r_putI 245 dX11_factor_242 fkX11_136 (fun _ => dsC_180 P W _) nn180 rfl rfl ?_
  refine ss_tk (fun G22 => ?_)
  refine r_goto 350 dX11_factor_245 rfl ?_
  exact r_return dX11_factor_350 rfl
theorem s_Bd_factor_b248 (P W : Int) (G : St) : SS (MBd_factor P W) some 248 [(0, aR 180)] [] G (Bd_factor_b248 P W G) := by
  refine r_aload_n 249 0 dX11_factor_248 rfl rfl rfl ?_
  refine r_get 252 (aR 206) dX11_factor_249 fkX11_97 (fun _ => dsC_180 P W _) nn180 rfl rfl ?_
  refine r_iconst 253 0 dX11_factor_252 rfl rfl ?_
  refine r_aload_n 254 0 dX11_factor_253 rfl rfl rfl ?_
  refine r_get 257 (aR 181) dX11_factor_254 fkX11_85 (fun _ => dsC_180 P W _) nn180 rfl rfl ?_
  refine r_aload_n 258 0 dX11_factor_257 rfl rfl rfl ?_
  refine r_iconst 259 1 dX11_factor_258 rfl rfl ?_
  refine r_callvI 262 (Mc := MBd_place P W) (o := 180) (as := [aI 1]) (st := [aR 181, aI 0, aR 206]) dX11_factor_259 rfl (c_Bd_place P W 1 G) lkX11_218 (cmBd_place P W) rfl rfl rfl (fun _ => dsC_180 P W _) nn180 rfl (Nat.le_of_ble_eq_true rfl) (Nat.le_of_ble_eq_true rfl) (fun _ => rfl) rfl (fun z23 G24 => ?_)
  refine r_iconst 263 1 dX11_factor_262 rfl rfl ?_
  refine r_iadd 264 dX11_factor_263 rfl ?_
  refine r_aload_n 265 0 dX11_factor_264 rfl rfl rfl ?_
  refine r_get 268 (aI W) dX11_factor_265 fkX11_60 (fun _ => dsC_180 P W _) nn180 rfl rfl ?_
  refine r_iconst 269 1 dX11_factor_268 rfl rfl ?_
  refine r_isub 270 dX11_factor_269 rfl ?_
  refine r_acopy 273 0 dX11_factor_270 q1475 (Or.inl rfl) (fun _ _ => dsC_206 P W _) (fun _ => nn206) (fun _ _ => dsC_181 P W _) (fun _ => nn181) (Nat.le_of_ble_eq_true rfl) (Nat.le_of_ble_eq_true rfl) rfl rfl ?_
  refine ss_tk (fun G25 => ?_)
  refine r_goto 350 dX11_factor_273 rfl ?_
  exact r_return dX11_factor_350 rfl
theorem s_Bd_factor_b276 (P W : Int) (x1 : Int) (G : St) : SS (MBd_factor P W) some 276 [(0, aR 180), (1, aI x1)] [] G (Bd_factor_b276 P W x1 G) := by
  refine r_aload_n 277 0 dX11_factor_276 rfl rfl rfl ?_
  refine r_aload_n 278 0 dX11_factor_277 rfl rfl rfl ?_
  refine r_iconst 279 1 dX11_factor_278 rfl rfl ?_
  refine r_callvI 282 (Mc := MBd_place P W) (o := 180) (as := [aI 1]) (st := [aR 180]) dX11_factor_279 rfl (c_Bd_place P W 1 G) lkX11_218 (cmBd_place P W) rfl rfl rfl (fun _ => dsC_180 P W _) nn180 rfl (Nat.le_of_ble_eq_true rfl) (Nat.le_of_ble_eq_true rfl) (fun _ => rfl) rfl (fun z26 G27 => ?_)
  refine r_callvL 285 (Mc := MBd_valueOf P W) (o := 180) (as := [aI z26]) (st := []) dX11_factor_282 rfl (c_Bd_valueOf P W z26 G27) lkX11_222 (cmBd_valueOf P W) rfl rfl rfl (fun _ => dsC_180 P W _) nn180 rfl (Nat.le_of_ble_eq_true rfl) (Nat.le_of_ble_eq_true rfl) (fun _ => rfl) rfl (fun z28 G29 => ?_)
  refine r_lstore_n 286 [(3, aL z28), (0, aR 180), (1, aI x1)] dX11_factor_285 rfl rfl rfl rfl ?_
  refine r_aload_n 287 1 dX11_factor_286 rfl rfl rfl ?_
  refine r_lload_n 288 0 dX11_factor_287 rfl rfl rfl ?_
  refine r_aload_n 289 1 dX11_factor_288 rfl rfl rfl ?_
  refine r_get 292 (aI W) dX11_factor_289 fkX11_60 (fun _ => dsC_180 P W _) nn180 rfl rfl ?_
  refine r_aload_n 293 1 dX11_factor_292 rfl rfl rfl ?_
  refine r_get 296 (aR 110) dX11_factor_293 fkX11_64 (fun _ => dsC_180 P W _) nn180 rfl rfl ?_
  refine r_get 299 (aR 114) dX11_factor_296 fkX11_200 (fun _ => dsC_110 P W _) nn110 rfl rfl ?_
  refine r_iload_n 300 2 dX11_factor_299 rfl rfl rfl ?_
  refine r_iald 301 dX11_factor_300 (fun _ _ _ => dsC_114 P W _) (fun _ _ => nn114) rfl ?_
  refine r_callvV 304 (Mc := MBd_needBelow P W) (o := 180) (as := [aL z28, aI W, aI (G29 114 x1)]) (st := []) dX11_factor_301 rfl (c_Bd_needBelow P W z28 W (G29 114 x1) G29) lkX11_226 (cmBd_needBelow P W) rfl rfl rfl (fun _ => dsC_180 P W _) nn180 rfl (Nat.le_of_ble_eq_true rfl) (Nat.le_of_ble_eq_true rfl) (fun _ => rfl) rfl (fun z30 G31 => ?_)
  refine r_aload_n 305 1 dX11_factor_304 rfl rfl rfl ?_
  refine r_dup 306 dX11_factor_305 rfl rfl ?_
  refine r_get 309 (aI (G31 180 6)) dX11_factor_306 fkX11_109 (fun _ => dsC_180 P W _) nn180 rfl rfl ?_
  refine r_iconst 310 1 dX11_factor_309 rfl rfl ?_
  refine r_isub 311 dX11_factor_310 rfl ?_
  refine r_putI 314 dX11_factor_311 fkX11_109 (fun _ => dsC_180 P W _) nn180 rfl rfl ?_
  refine ss_tk (fun G32 => ?_)
  refine r_aload_n 315 1 dX11_factor_314 rfl rfl rfl ?_
  refine r_get 318 (aR 130) dX11_factor_315 fkX11_68 (fun _ => dsC_180 P W _) nn180 rfl rfl ?_
  refine r_callvI 321 (Mc := MFt_is P W) (o := 130) (as := []) (st := []) dX11_factor_318 rfl (c_Ft_is P W G32) lkX11_144 (cmFt_is P W) rfl rfl rfl (fun _ => dsC_130 P W _) nn130 rfl (Nat.le_of_ble_eq_true rfl) (Nat.le_of_ble_eq_true rfl) (fun _ => rfl) rfl (fun z33 G34 => ?_)
  refine r_if_ne 350 324 dX11_factor_321 rfl rfl ?_ ?_
  · exact r_return dX11_factor_350 rfl
  · refine r_aload_n 325 1 dX11_factor_324 rfl rfl rfl ?_
    refine r_get 328 (aR 181) dX11_factor_325 fkX11_85 (fun _ => dsC_180 P W _) nn180 rfl rfl ?_
    refine r_aload_n 329 1 dX11_factor_328 rfl rfl rfl ?_
    refine r_iconst 330 1 dX11_factor_329 rfl rfl ?_
    refine r_callvI 333 (Mc := MBd_place P W) (o := 180) (as := [aI 1]) (st := [aR 181]) dX11_factor_330 rfl (c_Bd_place P W 1 G34) lkX11_218 (cmBd_place P W) rfl rfl rfl (fun _ => dsC_180 P W _) nn180 rfl (Nat.le_of_ble_eq_true rfl) (Nat.le_of_ble_eq_true rfl) (fun _ => rfl) rfl (fun z35 G36 => ?_)
    refine r_aload_n 334 1 dX11_factor_333 rfl rfl rfl ?_
    refine r_get 337 (aR 181) dX11_factor_334 fkX11_85 (fun _ => dsC_180 P W _) nn180 rfl rfl ?_
    refine r_aload_n 338 1 dX11_factor_337 rfl rfl rfl ?_
    refine r_iconst 339 1 dX11_factor_338 rfl rfl ?_
    refine r_callvI 342 (Mc := MBd_place P W) (o := 180) (as := [aI 1]) (st := [aR 181, aI z35, aR 181]) dX11_factor_339 rfl (c_Bd_place P W 1 G36) lkX11_218 (cmBd_place P W) rfl rfl rfl (fun _ => dsC_180 P W _) nn180 rfl (Nat.le_of_ble_eq_true rfl) (Nat.le_of_ble_eq_true rfl) (fun _ => rfl) rfl (fun z37 G38 => ?_)
    refine r_lload_n 343 0 dX11_factor_342 rfl rfl rfl ?_
    refine r_l2iw 344 dX11_factor_343 rfl ?_
    refine r_iadd 345 dX11_factor_344 rfl ?_
    refine r_iald 346 dX11_factor_345 (fun _ _ _ => dsC_181 P W _) (fun _ _ => nn181) rfl ?_
    refine r_iast 347 dX11_factor_346 (fun _ _ _ => dsC_181 P W _) (fun _ _ => nn181) rfl ?_
    refine ss_tk (fun G39 => ?_)
    refine r_goto 350 dX11_factor_347 rfl ?_
    exact r_return dX11_factor_350 rfl
theorem s_Bd_factor (P W : Int) (x1 : Int) (G : St) : SS (MBd_factor P W) some 0 [(0, aR 180), (1, aI x1)] [] G (Bd_factor P W x1 G) := by
  refine r_aload_n 1 0 dX11_factor_0 rfl rfl rfl ?_
  refine r_get 4 (aR 110) dX11_factor_1 fkX11_64 (fun _ => dsC_180 P W _) nn180 rfl rfl ?_
  refine r_get 7 (aR 111) dX11_factor_4 fkX11_172 (fun _ => dsC_110 P W _) nn110 rfl rfl ?_
  refine r_iload_n 8 1 dX11_factor_7 rfl rfl rfl ?_
  refine r_aald5 9 dX11_factor_8 (fun _ _ _ => dsC_111 P W _) (fun _ _ => nn111) rfl ?_
  refine r_astore_n 10 [(2, aR (G 111 x1)), (0, aR 180), (1, aI x1)] dX11_factor_9 rfl rfl rfl rfl ?_
  refine r_aload_n 11 0 dX11_factor_10 rfl rfl rfl ?_
  refine r_ord 14 dX11_factor_11 q1436 rfl (Nat.le_of_ble_eq_true rfl) (Nat.le_of_ble_eq_true rfl) rfl ?_
  refine r_tsw 350 [(88, Bd_factor_b88 P W x1 G), (130, Bd_factor_b130 P W (G 111 x1) G), (130, Bd_factor_b130 P W (G 111 x1) G), (154, Bd_factor_b154 P W x1 G), (166, Bd_factor_b166 P W G), (173, Bd_factor_b173 P W x1 G), (166, Bd_factor_b166 P W G), (350, some (0, G)), (181, Bd_factor_b181 P W x1 G), (166, Bd_factor_b166 P W G), (248, Bd_factor_b248 P W G), (166, Bd_factor_b166 P W G), (350, some (0, G)), (276, Bd_factor_b276 P W x1 G), (166, Bd_factor_b166 P W G)] dX11_factor_14 rfl rfl rfl ⟨?_, ?_, ?_, ?_, ?_, ?_, ?_, ?_, ?_, ?_, ?_, ?_, ?_, ?_, ?_, trivial⟩ ?_
  · refine r_to [1, 2] [(0, aR 180), (1, aI x1)] rfl ?_
    exact s_Bd_factor_b88 P W x1 G
  · refine r_to [1, 0] [(0, aR 180), (2, aR (G 111 x1))] rfl ?_
    exact s_Bd_factor_b130 P W (G 111 x1) G
  · refine r_to [1, 0] [(0, aR 180), (2, aR (G 111 x1))] rfl ?_
    exact s_Bd_factor_b130 P W (G 111 x1) G
  · refine r_to [1, 2] [(0, aR 180), (1, aI x1)] rfl ?_
    exact s_Bd_factor_b154 P W x1 G
  · refine r_to [1] [(0, aR 180)] rfl ?_
    exact s_Bd_factor_b166 P W G
  · refine r_to [1, 2] [(0, aR 180), (1, aI x1)] rfl ?_
    exact s_Bd_factor_b173 P W x1 G
  · refine r_to [1] [(0, aR 180)] rfl ?_
    exact s_Bd_factor_b166 P W G
  · exact r_return dX11_factor_350 rfl
  · refine r_to [1, 2] [(0, aR 180), (1, aI x1)] rfl ?_
    exact s_Bd_factor_b181 P W x1 G
  · refine r_to [1] [(0, aR 180)] rfl ?_
    exact s_Bd_factor_b166 P W G
  · refine r_to [1] [(0, aR 180)] rfl ?_
    exact s_Bd_factor_b248 P W G
  · refine r_to [1] [(0, aR 180)] rfl ?_
    exact s_Bd_factor_b166 P W G
  · exact r_return dX11_factor_350 rfl
  · refine r_to [1, 2] [(0, aR 180), (1, aI x1)] rfl ?_
    exact s_Bd_factor_b276 P W x1 G
  · refine r_to [1] [(0, aR 180)] rfl ?_
    exact s_Bd_factor_b166 P W G
  · exact r_return dX11_factor_350 rfl
theorem c_Bd_factor (P W : Int) (x1 : Int) (G : St) : MG (MBd_factor P W) [aR 180, aI x1] G (Bd_factor P W x1 G) := MG.of plX11 (Nat.le_of_ble_eq_true rfl) (s_Bd_factor P W x1 G)
theorem s_Wo_less_b31 (P W : Int) (x1 : Int) (x2 : Int) (x3 : Int) (x4 : Int) (X6 : Int × Int × St → Option (Int × St)) (hX6 : ∀ s, So (MWo_less P W) 6 [(0, aR 210), (1, aR x1), (2, aI x2), (3, aR x3), (4, aI x4), (5, aI (s.1)), (6, aI (s.2.1))] [] s.2.2 (X6 s)) (x5 : Int) (x6 : Int) (s0 : Int) (G : St) : SS (MWo_less P W) (lk X6 some) 31 [(0, aR 210), (1, aR x1), (2, aI x2), (3, aR x3), (4, aI x4), (5, aI x5), (6, aI x6)] [aI s0] G (Wo_less_b31 P W x1 x2 x3 x4 x5 x6 s0 G) := by
  refine r_istore 33 [(7, aI s0), (0, aR 210), (1, aR x1), (2, aI x2), (3, aR x3), (4, aI x4), (5, aI x5), (6, aI x6)] dX12_less_31 rfl rfl rfl ?_
  refine r_aload_n 34 1 dX12_less_33 rfl rfl rfl ?_
  refine r_get 37 (aR 140) dX12_less_34 fkX12_25 (fun _ => dsC_210 P W _) nn210 rfl rfl ?_
  refine r_aload_n 38 4 dX12_less_37 rfl rfl rfl ?_
  refine r_iload 40 5 dX12_less_38 rfl rfl ?_
  refine r_iload 42 7 dX12_less_40 rfl rfl ?_
  refine r_iadd 43 dX12_less_42 rfl ?_
  refine r_iald 44 dX12_less_43 (fun h h0 h1 => ialC_c P W h (Int.lt_of_le_of_lt h0 h1)) (fun h0 h1 => ialC_n P W (Int.lt_of_le_of_lt h0 h1)) rfl ?_
  refine r_iload 46 0 dX12_less_44 rfl rfl ?_
  refine r_ixor 47 dX12_less_46 rfl ?_
  refine r_iconst 48 1 dX12_less_47 rfl rfl ?_
  refine r_ixor 49 dX12_less_48 rfl ?_
  refine r_iload 51 6 dX12_less_49 rfl rfl ?_
  refine r_callvI 54 (Mc := MCi_xor P W) (o := 140) (as := [aI (j_xo (j_xo (G x3 (x4 + x6)) s0) 1), aI x5]) (st := []) dX12_less_51 rfl (c_Ci_xor P W (j_xo (j_xo (G x3 (x4 + x6)) s0) 1) x5 G) lkX12_33 (cmCi_xor P W) rfl rfl rfl (fun _ => dsC_140 P W _) nn140 rfl (Nat.le_of_ble_eq_true rfl) (Nat.le_of_ble_eq_true rfl) (fun _ => rfl) rfl (fun z1 G2 => ?_)
  refine r_istore 56 [(8, aI z1), (7, aI s0), (0, aR 210), (1, aR x1), (2, aI x2), (3, aR x3), (4, aI x4), (5, aI x5), (6, aI x6)] dX12_less_54 rfl rfl rfl ?_
  refine r_aload_n 57 2 dX12_less_56 rfl rfl rfl ?_
  refine r_get 60 (aR 140) dX12_less_57 fkX12_25 (fun _ => dsC_210 P W _) nn210 rfl rfl ?_
  refine r_aload_n 61 3 dX12_less_60 rfl rfl rfl ?_
  refine r_iload_n 62 4 dX12_less_61 rfl rfl rfl ?_
  refine r_iload 64 8 dX12_less_62 rfl rfl ?_
  refine r_iadd 65 dX12_less_64 rfl ?_
  refine r_iald 66 dX12_less_65 (fun h h0 h1 => ialC_c P W h (Int.lt_of_le_of_lt h0 h1)) (fun h0 h1 => ialC_n P W (Int.lt_of_le_of_lt h0 h1)) rfl ?_
  refine r_iload 68 1 dX12_less_66 rfl rfl ?_
  refine r_ixor 69 dX12_less_68 rfl ?_
  refine r_iload 71 7 dX12_less_69 rfl rfl ?_
  refine r_callvI 74 (Mc := MCi_xor P W) (o := 140) (as := [aI (j_xo (G2 x1 (x2 + x6)) s0), aI x5]) (st := []) dX12_less_71 rfl (c_Ci_xor P W (j_xo (G2 x1 (x2 + x6)) s0) x5 G2) lkX12_33 (cmCi_xor P W) rfl rfl rfl (fun _ => dsC_140 P W _) nn140 rfl (Nat.le_of_ble_eq_true rfl) (Nat.le_of_ble_eq_true rfl) (fun _ => rfl) rfl (fun z3 G4 => ?_)
  refine r_istore 76 [(9, aI z3), (8, aI z1), (7, aI s0), (0, aR 210), (1, aR x1), (2, aI x2), (3, aR x3), (4, aI x4), (5, aI x5), (6, aI x6)] dX12_less_74 rfl rfl rfl ?_
  refine r_aload_n 77 3 dX12_less_76 rfl rfl rfl ?_
  refine r_get 80 (aR 140) dX12_less_77 fkX12_25 (fun _ => dsC_210 P W _) nn210 rfl rfl ?_
  refine r_iload 82 8 dX12_less_80 rfl rfl ?_
  refine r_aload_n 83 3 dX12_less_82 rfl rfl rfl ?_
  refine r_get 86 (aR 140) dX12_less_83 fkX12_25 (fun _ => dsC_210 P W _) nn210 rfl rfl ?_
  refine r_iload 88 0 dX12_less_86 rfl rfl ?_
  refine r_iload 90 1 dX12_less_88 rfl rfl ?_
  refine r_callvI 93 (Mc := MCi_and P W) (o := 140) (as := [aI z3, aI z1]) (st := [aI x5, aR 140]) dX12_less_90 rfl (c_Ci_and P W z3 z1 G4) lkX12_39 (cmCi_and P W) rfl rfl rfl (fun _ => dsC_140 P W _) nn140 rfl (Nat.le_of_ble_eq_true rfl) (Nat.le_of_ble_eq_true rfl) (fun _ => rfl) rfl (fun z5 G6 => ?_)
  refine r_callvI 96 (Mc := MCi_xor P W) (o := 140) (as := [aI x5, aI z5]) (st := []) dX12_less_93 rfl (c_Ci_xor P W x5 z5 G6) lkX12_33 (cmCi_xor P W) rfl rfl rfl (fun _ => dsC_140 P W _) nn140 rfl (Nat.le_of_ble_eq_true rfl) (Nat.le_of_ble_eq_true rfl) (fun _ => rfl) rfl (fun z7 G8 => ?_)
  refine r_istore 98 [(5, aI z7), (9, aI z3), (8, aI z1), (7, aI s0), (0, aR 210), (1, aR x1), (2, aI x2), (3, aR x3), (4, aI x4), (6, aI x6)] dX12_less_96 rfl rfl rfl ?_
  refine r_iinc 101 [(6, aI (x6 + 1)), (5, aI z7), (9, aI z3), (8, aI z1), (7, aI s0), (0, aR 210), (1, aR x1), (2, aI x2), (3, aR x3), (4, aI x4)] 9 dX12_less_98 rfl rfl rfl rfl ?_
  refine r_goto 6 dX12_less_101 rfl ?_
  refine r_to [5, 6, 7, 8, 9, 1, 0] [(0, aR 210), (1, aR x1), (2, aI x2), (3, aR x3), (4, aI x4), (5, aI z7), (6, aI (x6 + 1))] rfl ?_
  exact SS.back (hX6 (z7, x6 + 1, G8))
theorem s_Wo_less_s6 (P W : Int) (x1 : Int) (x2 : Int) (x3 : Int) (x4 : Int) (X6 : Int × Int × St → Option (Int × St)) (hX6 : ∀ s, So (MWo_less P W) 6 [(0, aR 210), (1, aR x1), (2, aI x2), (3, aR x3), (4, aI x4), (5, aI (s.1)), (6, aI (s.2.1))] [] s.2.2 (X6 s)) (x5 : Int) (x6 : Int) (G : St) : SS (MWo_less P W) (lk X6 some) 6 [(0, aR 210), (1, aR x1), (2, aI x2), (3, aR x3), (4, aI x4), (5, aI x5), (6, aI x6)] [] G (Wo_less_s6 P W x1 x2 x3 x4 x5 x6 G) := by
  refine r_iload 8 6 dX12_less_6 rfl rfl ?_
  refine r_aload_n 9 0 dX12_less_8 rfl rfl rfl ?_
  refine r_get 12 (aI W) dX12_less_9 fkX12_29 (fun _ => dsC_210 P W _) nn210 rfl rfl ?_
  refine r_icmp_ge 104 15 dX12_less_12 rfl rfl ?_ ?_
  · refine SS.ex ?_
    refine r_iload 106 5 dX12_less_104 rfl rfl ?_
    refine r_iconst 107 1 dX12_less_106 rfl rfl ?_
    refine r_ixor 108 dX12_less_107 rfl ?_
    exact r_ireturn dX12_less_108 rfl
  · refine r_iload 17 6 dX12_less_15 rfl rfl ?_
    refine r_aload_n 18 0 dX12_less_17 rfl rfl rfl ?_
    refine r_get 21 (aI W) dX12_less_18 fkX12_29 (fun _ => dsC_210 P W _) nn210 rfl rfl ?_
    refine r_iconst 22 1 dX12_less_21 rfl rfl ?_
    refine r_isub 23 dX12_less_22 rfl ?_
    refine SS.phi (fun VV_ => Wo_less_b31 P W x1 x2 x3 x4 x5 x6 VV_ G) ?_
    refine r_icmp_ne 30 26 dX12_less_23 rfl rfl ?_ ?_
    · refine r_iconst 31 0 dX12_less_30 rfl rfl ?_
      exact s_Wo_less_b31 P W x1 x2 x3 x4 X6 hX6 x5 x6 0 G
    · refine r_iconst 27 1 dX12_less_26 rfl rfl ?_
      refine r_goto 31 dX12_less_27 rfl ?_
      exact s_Wo_less_b31 P W x1 x2 x3 x4 X6 hX6 x5 x6 1 G
theorem sl_Wo_less_6 (P W : Int) (x1 : Int) (x2 : Int) (x3 : Int) (x4 : Int) (x5 : Int) (x6 : Int) (G : St) : SS (MWo_less P W) some 6 [(0, aR 210), (1, aR x1), (2, aI x2), (3, aR x3), (4, aI x4), (5, aI x5), (6, aI x6)] [] G (Wo_less_l6 P W x1 x2 x3 x4 x5 x6 G) := by
  exact SS.loop (σ := Int × Int × St) (fun s => [(0, aR 210), (1, aR x1), (2, aI x2), (3, aR x3), (4, aI x4), (5, aI (s.1)), (6, aI (s.2.1))]) (fun s => s.2.2) (fun s => Wo_less_s6 P W x1 x2 x3 x4 s.1 s.2.1 s.2.2) (fun X6 hX6 s => s_Wo_less_s6 P W x1 x2 x3 x4  X6 hX6 s.1 s.2.1 s.2.2) (x5, x6, G)
theorem s_Wo_less (P W : Int) (x1 : Int) (x2 : Int) (x3 : Int) (x4 : Int) (G : St) : SS (MWo_less P W) some 0 [(0, aR 210), (1, aR x1), (2, aI x2), (3, aR x3), (4, aI x4)] [] G (Wo_less P W x1 x2 x3 x4 G) := by
  refine r_iconst 1 (-1) dX12_less_0 rfl rfl ?_
  refine r_istore 3 [(5, aI (-1)), (0, aR 210), (1, aR x1), (2, aI x2), (3, aR x3), (4, aI x4)] dX12_less_1 rfl rfl rfl ?_
  refine r_iconst 4 0 dX12_less_3 rfl rfl ?_
  refine r_istore 6 [(6, aI 0), (5, aI (-1)), (0, aR 210), (1, aR x1), (2, aI x2), (3, aR x3), (4, aI x4)] dX12_less_4 rfl rfl rfl ?_
  refine r_to [2, 3, 4, 5, 6, 1, 0] [(0, aR 210), (1, aR x1), (2, aI x2), (3, aR x3), (4, aI x4), (5, aI (-1)), (6, aI 0)] rfl ?_
  exact sl_Wo_less_6 P W x1 x2 x3 x4 (-1) 0 G
theorem c_Wo_less (P W : Int) (x1 : Int) (x2 : Int) (x3 : Int) (x4 : Int) (G : St) : MG (MWo_less P W) [aR 210, aR x1, aI x2, aR x3, aI x4] G (Wo_less P W x1 x2 x3 x4 G) := MG.of plX12 (Nat.le_of_ble_eq_true rfl) (s_Wo_less P W x1 x2 x3 x4 G)
theorem s_Bd_compared_b40 (P W : Int) (x2 : Int) (x3 : Int) (x4 : Int) (G : St) : SS (MBd_compared P W) some 40 [(0, aR 180), (2, aI x2), (3, aI x3), (4, aI x4)] [] G (Bd_compared_b40 P W x2 x3 x4 G) := by
  refine r_aload_n 41 0 dX11_compared_40 rfl rfl rfl ?_
  refine r_get 44 (aR 210) dX11_compared_41 fkX11_81 (fun _ => dsC_180 P W _) nn180 rfl rfl ?_
  refine r_aload_n 45 0 dX11_compared_44 rfl rfl rfl ?_
  refine r_get 48 (aR 181) dX11_compared_45 fkX11_85 (fun _ => dsC_180 P W _) nn180 rfl rfl ?_
  refine r_iload_n 49 1 dX11_compared_48 rfl rfl rfl ?_
  refine r_aload_n 50 0 dX11_compared_49 rfl rfl rfl ?_
  refine r_get 53 (aR 181) dX11_compared_50 fkX11_85 (fun _ => dsC_180 P W _) nn180 rfl rfl ?_
  refine r_iload_n 54 2 dX11_compared_53 rfl rfl rfl ?_
  refine r_iload 56 3 dX11_compared_54 rfl rfl ?_
  refine r_callvI 59 (Mc := MWo_equal P W) (o := 210) (as := [aR 181, aI x2, aR 181, aI x3, aI x4]) (st := []) dX11_compared_56 rfl (c_Wo_equal P W 181 x2 181 x3 x4 G) lkX11_268 (cmWo_equal P W) rfl rfl rfl (fun _ => dsC_210 P W _) nn210 rfl (Nat.le_of_ble_eq_true rfl) (Nat.le_of_ble_eq_true rfl) (fun _ => rfl) rfl (fun z1 G2 => ?_)
  exact r_ireturn dX11_compared_59 rfl
theorem s_Bd_compared_b60 (P W : Int) (x2 : Int) (x3 : Int) (x4 : Int) (G : St) : SS (MBd_compared P W) some 60 [(0, aR 180), (2, aI x2), (3, aI x3), (4, aI x4)] [] G (Bd_compared_b60 P W x2 x3 x4 G) := by
  refine r_aload_n 61 0 dX11_compared_60 rfl rfl rfl ?_
  refine r_get 64 (aR 210) dX11_compared_61 fkX11_81 (fun _ => dsC_180 P W _) nn180 rfl rfl ?_
  refine r_aload_n 65 0 dX11_compared_64 rfl rfl rfl ?_
  refine r_get 68 (aR 181) dX11_compared_65 fkX11_85 (fun _ => dsC_180 P W _) nn180 rfl rfl ?_
  refine r_iload_n 69 1 dX11_compared_68 rfl rfl rfl ?_
  refine r_aload_n 70 0 dX11_compared_69 rfl rfl rfl ?_
  refine r_get 73 (aR 181) dX11_compared_70 fkX11_85 (fun _ => dsC_180 P W _) nn180 rfl rfl ?_
  refine r_iload_n 74 2 dX11_compared_73 rfl rfl rfl ?_
  refine r_iload 76 3 dX11_compared_74 rfl rfl ?_
  refine r_callvI 79 (Mc := MWo_equal P W) (o := 210) (as := [aR 181, aI x2, aR 181, aI x3, aI x4]) (st := []) dX11_compared_76 rfl (c_Wo_equal P W 181 x2 181 x3 x4 G) lkX11_268 (cmWo_equal P W) rfl rfl rfl (fun _ => dsC_210 P W _) nn210 rfl (Nat.le_of_ble_eq_true rfl) (Nat.le_of_ble_eq_true rfl) (fun _ => rfl) rfl (fun z3 G4 => ?_)
  refine r_iconst 80 1 dX11_compared_79 rfl rfl ?_
  refine r_ixor 81 dX11_compared_80 rfl ?_
  exact r_ireturn dX11_compared_81 rfl
theorem s_Bd_compared_b82 (P W : Int) (x2 : Int) (x3 : Int) (G : St) : SS (MBd_compared P W) some 82 [(0, aR 180), (2, aI x2), (3, aI x3)] [] G (Bd_compared_b82 P W x2 x3 G) := by
  refine r_aload_n 83 0 dX11_compared_82 rfl rfl rfl ?_
  refine r_get 86 (aR 210) dX11_compared_83 fkX11_81 (fun _ => dsC_180 P W _) nn180 rfl rfl ?_
  refine r_aload_n 87 0 dX11_compared_86 rfl rfl rfl ?_
  refine r_get 90 (aR 181) dX11_compared_87 fkX11_85 (fun _ => dsC_180 P W _) nn180 rfl rfl ?_
  refine r_iload_n 91 1 dX11_compared_90 rfl rfl rfl ?_
  refine r_aload_n 92 0 dX11_compared_91 rfl rfl rfl ?_
  refine r_get 95 (aR 181) dX11_compared_92 fkX11_85 (fun _ => dsC_180 P W _) nn180 rfl rfl ?_
  refine r_iload_n 96 2 dX11_compared_95 rfl rfl rfl ?_
  refine r_callvI 99 (Mc := MWo_less P W) (o := 210) (as := [aR 181, aI x2, aR 181, aI x3]) (st := []) dX11_compared_96 rfl (c_Wo_less P W 181 x2 181 x3 G) lkX11_341 (cmWo_less P W) rfl rfl rfl (fun _ => dsC_210 P W _) nn210 rfl (Nat.le_of_ble_eq_true rfl) (Nat.le_of_ble_eq_true rfl) (fun _ => rfl) rfl (fun z5 G6 => ?_)
  exact r_ireturn dX11_compared_99 rfl
theorem s_Bd_compared_b100 (P W : Int) (x2 : Int) (x3 : Int) (G : St) : SS (MBd_compared P W) some 100 [(0, aR 180), (2, aI x2), (3, aI x3)] [] G (Bd_compared_b100 P W x2 x3 G) := by
  refine r_aload_n 101 0 dX11_compared_100 rfl rfl rfl ?_
  refine r_get 104 (aR 210) dX11_compared_101 fkX11_81 (fun _ => dsC_180 P W _) nn180 rfl rfl ?_
  refine r_aload_n 105 0 dX11_compared_104 rfl rfl rfl ?_
  refine r_get 108 (aR 181) dX11_compared_105 fkX11_85 (fun _ => dsC_180 P W _) nn180 rfl rfl ?_
  refine r_iload_n 109 2 dX11_compared_108 rfl rfl rfl ?_
  refine r_aload_n 110 0 dX11_compared_109 rfl rfl rfl ?_
  refine r_get 113 (aR 181) dX11_compared_110 fkX11_85 (fun _ => dsC_180 P W _) nn180 rfl rfl ?_
  refine r_iload_n 114 1 dX11_compared_113 rfl rfl rfl ?_
  refine r_callvI 117 (Mc := MWo_less P W) (o := 210) (as := [aR 181, aI x3, aR 181, aI x2]) (st := []) dX11_compared_114 rfl (c_Wo_less P W 181 x3 181 x2 G) lkX11_341 (cmWo_less P W) rfl rfl rfl (fun _ => dsC_210 P W _) nn210 rfl (Nat.le_of_ble_eq_true rfl) (Nat.le_of_ble_eq_true rfl) (fun _ => rfl) rfl (fun z7 G8 => ?_)
  refine r_iconst 118 1 dX11_compared_117 rfl rfl ?_
  refine r_ixor 119 dX11_compared_118 rfl ?_
  exact r_ireturn dX11_compared_119 rfl
theorem s_Bd_compared_b120 (P W : Int) (x2 : Int) (x3 : Int) (G : St) : SS (MBd_compared P W) some 120 [(0, aR 180), (2, aI x2), (3, aI x3)] [] G (Bd_compared_b120 P W x2 x3 G) := by
  refine r_aload_n 121 0 dX11_compared_120 rfl rfl rfl ?_
  refine r_get 124 (aR 210) dX11_compared_121 fkX11_81 (fun _ => dsC_180 P W _) nn180 rfl rfl ?_
  refine r_aload_n 125 0 dX11_compared_124 rfl rfl rfl ?_
  refine r_get 128 (aR 181) dX11_compared_125 fkX11_85 (fun _ => dsC_180 P W _) nn180 rfl rfl ?_
  refine r_iload_n 129 2 dX11_compared_128 rfl rfl rfl ?_
  refine r_aload_n 130 0 dX11_compared_129 rfl rfl rfl ?_
  refine r_get 133 (aR 181) dX11_compared_130 fkX11_85 (fun _ => dsC_180 P W _) nn180 rfl rfl ?_
  refine r_iload_n 134 1 dX11_compared_133 rfl rfl rfl ?_
  refine r_callvI 137 (Mc := MWo_less P W) (o := 210) (as := [aR 181, aI x3, aR 181, aI x2]) (st := []) dX11_compared_134 rfl (c_Wo_less P W 181 x3 181 x2 G) lkX11_341 (cmWo_less P W) rfl rfl rfl (fun _ => dsC_210 P W _) nn210 rfl (Nat.le_of_ble_eq_true rfl) (Nat.le_of_ble_eq_true rfl) (fun _ => rfl) rfl (fun z9 G10 => ?_)
  exact r_ireturn dX11_compared_137 rfl
theorem s_Bd_compared_b138 (P W : Int) (x2 : Int) (x3 : Int) (G : St) : SS (MBd_compared P W) some 138 [(0, aR 180), (2, aI x2), (3, aI x3)] [] G (Bd_compared_b138 P W x2 x3 G) := by
  refine r_aload_n 139 0 dX11_compared_138 rfl rfl rfl ?_
  refine r_get 142 (aR 210) dX11_compared_139 fkX11_81 (fun _ => dsC_180 P W _) nn180 rfl rfl ?_
  refine r_aload_n 143 0 dX11_compared_142 rfl rfl rfl ?_
  refine r_get 146 (aR 181) dX11_compared_143 fkX11_85 (fun _ => dsC_180 P W _) nn180 rfl rfl ?_
  refine r_iload_n 147 1 dX11_compared_146 rfl rfl rfl ?_
  refine r_aload_n 148 0 dX11_compared_147 rfl rfl rfl ?_
  refine r_get 151 (aR 181) dX11_compared_148 fkX11_85 (fun _ => dsC_180 P W _) nn180 rfl rfl ?_
  refine r_iload_n 152 2 dX11_compared_151 rfl rfl rfl ?_
  refine r_callvI 155 (Mc := MWo_less P W) (o := 210) (as := [aR 181, aI x2, aR 181, aI x3]) (st := []) dX11_compared_152 rfl (c_Wo_less P W 181 x2 181 x3 G) lkX11_341 (cmWo_less P W) rfl rfl rfl (fun _ => dsC_210 P W _) nn210 rfl (Nat.le_of_ble_eq_true rfl) (Nat.le_of_ble_eq_true rfl) (fun _ => rfl) rfl (fun z11 G12 => ?_)
  refine r_iconst 156 1 dX11_compared_155 rfl rfl ?_
  refine r_ixor 157 dX11_compared_156 rfl ?_
  exact r_ireturn dX11_compared_157 rfl
theorem s_Bd_compared (P W : Int) (x1 : Int) (x2 : Int) (x3 : Int) (x4 : Int) (G : St) : SS (MBd_compared P W) some 0 [(0, aR 180), (1, aR x1), (2, aI x2), (3, aI x3), (4, aI x4)] [] G (Bd_compared P W x1 x2 x3 x4 G) := by
  refine r_aload_n 1 1 dX11_compared_0 rfl rfl rfl ?_
  refine r_ord 4 dX11_compared_1 q1436 rfl (Nat.le_of_ble_eq_true rfl) (Nat.le_of_ble_eq_true rfl) rfl ?_
  refine r_tsw 138 [(40, Bd_compared_b40 P W x2 x3 x4 G), (60, Bd_compared_b60 P W x2 x3 x4 G), (82, Bd_compared_b82 P W x2 x3 G), (100, Bd_compared_b100 P W x2 x3 G), (120, Bd_compared_b120 P W x2 x3 G)] dX11_compared_4 rfl rfl rfl ⟨?_, ?_, ?_, ?_, ?_, trivial⟩ ?_
  · refine r_to [0, 2, 3, 4] [(0, aR 180), (2, aI x2), (3, aI x3), (4, aI x4)] rfl ?_
    exact s_Bd_compared_b40 P W x2 x3 x4 G
  · refine r_to [0, 2, 3, 4] [(0, aR 180), (2, aI x2), (3, aI x3), (4, aI x4)] rfl ?_
    exact s_Bd_compared_b60 P W x2 x3 x4 G
  · refine r_to [0, 2, 3] [(0, aR 180), (2, aI x2), (3, aI x3)] rfl ?_
    exact s_Bd_compared_b82 P W x2 x3 G
  · refine r_to [0, 2, 3] [(0, aR 180), (2, aI x2), (3, aI x3)] rfl ?_
    exact s_Bd_compared_b100 P W x2 x3 G
  · refine r_to [0, 2, 3] [(0, aR 180), (2, aI x2), (3, aI x3)] rfl ?_
    exact s_Bd_compared_b120 P W x2 x3 G
  · refine r_to [0, 2, 3] [(0, aR 180), (2, aI x2), (3, aI x3)] rfl ?_
    exact s_Bd_compared_b138 P W x2 x3 G
theorem c_Bd_compared (P W : Int) (x1 : Int) (x2 : Int) (x3 : Int) (x4 : Int) (G : St) : MG (MBd_compared P W) [aR 180, aR x1, aI x2, aI x3, aI x4] G (Bd_compared P W x1 x2 x3 x4 G) := MG.of plX11 (Nat.le_of_ble_eq_true rfl) (s_Bd_compared P W x1 x2 x3 x4 G)
theorem s_Ci_or (P W : Int) (x1 : Int) (x2 : Int) (G : St) : SS (MCi_or P W) some 0 [(0, aR 140), (1, aI x1), (2, aI x2)] [] G (Ci_or x1 x2 G) := by
  refine r_aload_n 1 0 dX5_or_0 rfl rfl rfl ?_
  refine r_iload_n 2 1 dX5_or_1 rfl rfl rfl ?_
  refine r_iconst 3 1 dX5_or_2 rfl rfl ?_
  refine r_ixor 4 dX5_or_3 rfl ?_
  refine r_iload_n 5 2 dX5_or_4 rfl rfl rfl ?_
  refine r_iconst 6 1 dX5_or_5 rfl rfl ?_
  refine r_ixor 7 dX5_or_6 rfl ?_
  refine r_callvI 10 (Mc := MCi_and P W) (o := 140) (as := [aI (j_xo x1 1), aI (j_xo x2 1)]) (st := []) dX5_or_7 rfl (c_Ci_and P W (j_xo x1 1) (j_xo x2 1) G) lkX5_58 (cmCi_and P W) rfl rfl rfl (fun _ => dsC_140 P W _) nn140 rfl (Nat.le_of_ble_eq_true rfl) (Nat.le_of_ble_eq_true rfl) (fun _ => rfl) rfl (fun z1 G2 => ?_)
  refine r_iconst 11 1 dX5_or_10 rfl rfl ?_
  refine r_ixor 12 dX5_or_11 rfl ?_
  exact r_ireturn dX5_or_12 rfl
theorem c_Ci_or (P W : Int) (x1 : Int) (x2 : Int) (G : St) : MG (MCi_or P W) [aR 140, aI x1, aI x2] G (Ci_or x1 x2 G) := MG.of plX5 (Nat.le_of_ble_eq_true rfl) (s_Ci_or P W x1 x2 G)
theorem s_Bd_bitwise_s63 (P W : Int) (x2 : Int) (x3 : Int) (x4 : Int) (X63 : Int × St → Option (Int × St)) (hX63 : ∀ s, So (MBd_bitwise P W) 63 [(0, aR 180), (2, aI x2), (3, aI x3), (4, aI x4), (5, aI (s.1))] [] s.2 (X63 s)) (x5 : Int) (G : St) : SS (MBd_bitwise P W) (lk X63 some) 63 [(0, aR 180), (2, aI x2), (3, aI x3), (4, aI x4), (5, aI x5)] [] G (Bd_bitwise_s63 P W x2 x3 x4 x5 G) := by
  refine r_iload 65 4 dX11_bitwise_63 rfl rfl ?_
  refine r_iload 67 3 dX11_bitwise_65 rfl rfl ?_
  refine r_icmp_ge 108 70 dX11_bitwise_67 rfl rfl ?_ ?_
  · refine SS.ex ?_
    refine r_aload_n 109 0 dX11_bitwise_108 rfl rfl rfl ?_
    refine r_iconst 110 2 dX11_bitwise_109 rfl rfl ?_
    refine r_iload 112 3 dX11_bitwise_110 rfl rfl ?_
    refine r_callvV 115 (Mc := MBd_settle P W) (o := 180) (as := [aI 2, aI x4]) (st := []) dX11_bitwise_112 rfl (c_Bd_settle P W 2 x4 G) lkX11_303 (cmBd_settle P W) rfl rfl rfl (fun _ => dsC_180 P W _) nn180 rfl (Nat.le_of_ble_eq_true rfl) (Nat.le_of_ble_eq_true rfl) (fun _ => rfl) rfl (fun z3 G4 => ?_)
    refine r_goto 263 dX11_bitwise_115 rfl ?_
    exact r_return dX11_bitwise_263 rfl
  · refine r_aload_n 71 0 dX11_bitwise_70 rfl rfl rfl ?_
    refine r_get 74 (aR 207) dX11_bitwise_71 fkX11_100 (fun _ => dsC_180 P W _) nn180 rfl rfl ?_
    refine r_iload 76 4 dX11_bitwise_74 rfl rfl ?_
    refine r_aload_n 77 0 dX11_bitwise_76 rfl rfl rfl ?_
    refine r_get 80 (aR 140) dX11_bitwise_77 fkX11_72 (fun _ => dsC_180 P W _) nn180 rfl rfl ?_
    refine r_aload_n 81 0 dX11_bitwise_80 rfl rfl rfl ?_
    refine r_get 84 (aR 181) dX11_bitwise_81 fkX11_85 (fun _ => dsC_180 P W _) nn180 rfl rfl ?_
    refine r_iload_n 85 1 dX11_bitwise_84 rfl rfl rfl ?_
    refine r_iload 87 4 dX11_bitwise_85 rfl rfl ?_
    refine r_iadd 88 dX11_bitwise_87 rfl ?_
    refine r_iald 89 dX11_bitwise_88 (fun _ _ _ => dsC_181 P W _) (fun _ _ => nn181) rfl ?_
    refine r_aload_n 90 0 dX11_bitwise_89 rfl rfl rfl ?_
    refine r_get 93 (aR 181) dX11_bitwise_90 fkX11_85 (fun _ => dsC_180 P W _) nn180 rfl rfl ?_
    refine r_iload_n 94 2 dX11_bitwise_93 rfl rfl rfl ?_
    refine r_iload 96 4 dX11_bitwise_94 rfl rfl ?_
    refine r_iadd 97 dX11_bitwise_96 rfl ?_
    refine r_iald 98 dX11_bitwise_97 (fun _ _ _ => dsC_181 P W _) (fun _ _ => nn181) rfl ?_
    refine r_callvI 101 (Mc := MCi_or P W) (o := 140) (as := [aI (G 181 (x2 + x5)), aI (G 181 (x3 + x5))]) (st := [aI x5, aR 207]) dX11_bitwise_98 rfl (c_Ci_or P W (G 181 (x2 + x5)) (G 181 (x3 + x5)) G) lkX11_334 (cmCi_or P W) rfl rfl rfl (fun _ => dsC_140 P W _) nn140 rfl (Nat.le_of_ble_eq_true rfl) (Nat.le_of_ble_eq_true rfl) (fun _ => rfl) rfl (fun z5 G6 => ?_)
    refine r_iast 102 dX11_bitwise_101 (fun _ _ _ => dsC_207 P W _) (fun _ _ => nn207) rfl ?_
    refine ss_tk (fun G7 => ?_)
    refine r_iinc 105 [(5, aI (x5 + 1)), (0, aR 180), (2, aI x2), (3, aI x3), (4, aI x4)] 4 dX11_bitwise_102 rfl rfl rfl rfl ?_
    refine r_goto 63 dX11_bitwise_105 rfl ?_
    refine r_to [1, 2, 3, 4, 0] [(0, aR 180), (2, aI x2), (3, aI x3), (4, aI x4), (5, aI (x5 + 1))] rfl ?_
    exact SS.back (hX63 (x5 + 1, G7))
theorem sl_Bd_bitwise_63 (P W : Int) (x2 : Int) (x3 : Int) (x4 : Int) (x5 : Int) (G : St) : SS (MBd_bitwise P W) some 63 [(0, aR 180), (2, aI x2), (3, aI x3), (4, aI x4), (5, aI x5)] [] G (Bd_bitwise_l63 P W x2 x3 x4 x5 G) := by
  exact SS.loop (σ := Int × St) (fun s => [(0, aR 180), (2, aI x2), (3, aI x3), (4, aI x4), (5, aI (s.1))]) (fun s => s.2) (fun s => Bd_bitwise_s63 P W x2 x3 x4 s.1 s.2) (fun X63 hX63 s => s_Bd_bitwise_s63 P W x2 x3 x4  X63 hX63 s.1 s.2) (x5, G)
theorem s_Bd_bitwise_b60 (P W : Int) (x2 : Int) (x3 : Int) (x4 : Int) (G : St) : SS (MBd_bitwise P W) some 60 [(0, aR 180), (2, aI x2), (3, aI x3), (4, aI x4)] [] G (Bd_bitwise_b60 P W x2 x3 x4 G) := by
  refine r_iconst 61 0 dX11_bitwise_60 rfl rfl ?_
  refine r_istore 63 [(5, aI 0), (0, aR 180), (2, aI x2), (3, aI x3), (4, aI x4)] dX11_bitwise_61 rfl rfl rfl ?_
  refine r_to [1, 2, 3, 4, 0] [(0, aR 180), (2, aI x2), (3, aI x3), (4, aI x4), (5, aI 0)] rfl ?_
  exact sl_Bd_bitwise_63 P W x2 x3 x4 0 G
theorem s_Bd_bitwise_s121 (P W : Int) (x2 : Int) (x3 : Int) (x4 : Int) (X121 : Int × St → Option (Int × St)) (hX121 : ∀ s, So (MBd_bitwise P W) 121 [(0, aR 180), (2, aI x2), (3, aI x3), (4, aI x4), (5, aI (s.1))] [] s.2 (X121 s)) (x5 : Int) (G : St) : SS (MBd_bitwise P W) (lk X121 some) 121 [(0, aR 180), (2, aI x2), (3, aI x3), (4, aI x4), (5, aI x5)] [] G (Bd_bitwise_s121 P W x2 x3 x4 x5 G) := by
  refine r_iload 123 4 dX11_bitwise_121 rfl rfl ?_
  refine r_iload 125 3 dX11_bitwise_123 rfl rfl ?_
  refine r_icmp_ge 166 128 dX11_bitwise_125 rfl rfl ?_ ?_
  · refine SS.ex ?_
    refine r_aload_n 167 0 dX11_bitwise_166 rfl rfl rfl ?_
    refine r_iconst 168 2 dX11_bitwise_167 rfl rfl ?_
    refine r_iload 170 3 dX11_bitwise_168 rfl rfl ?_
    refine r_callvV 173 (Mc := MBd_settle P W) (o := 180) (as := [aI 2, aI x4]) (st := []) dX11_bitwise_170 rfl (c_Bd_settle P W 2 x4 G) lkX11_303 (cmBd_settle P W) rfl rfl rfl (fun _ => dsC_180 P W _) nn180 rfl (Nat.le_of_ble_eq_true rfl) (Nat.le_of_ble_eq_true rfl) (fun _ => rfl) rfl (fun z8 G9 => ?_)
    refine r_goto 263 dX11_bitwise_173 rfl ?_
    exact r_return dX11_bitwise_263 rfl
  · refine r_aload_n 129 0 dX11_bitwise_128 rfl rfl rfl ?_
    refine r_get 132 (aR 207) dX11_bitwise_129 fkX11_100 (fun _ => dsC_180 P W _) nn180 rfl rfl ?_
    refine r_iload 134 4 dX11_bitwise_132 rfl rfl ?_
    refine r_aload_n 135 0 dX11_bitwise_134 rfl rfl rfl ?_
    refine r_get 138 (aR 140) dX11_bitwise_135 fkX11_72 (fun _ => dsC_180 P W _) nn180 rfl rfl ?_
    refine r_aload_n 139 0 dX11_bitwise_138 rfl rfl rfl ?_
    refine r_get 142 (aR 181) dX11_bitwise_139 fkX11_85 (fun _ => dsC_180 P W _) nn180 rfl rfl ?_
    refine r_iload_n 143 1 dX11_bitwise_142 rfl rfl rfl ?_
    refine r_iload 145 4 dX11_bitwise_143 rfl rfl ?_
    refine r_iadd 146 dX11_bitwise_145 rfl ?_
    refine r_iald 147 dX11_bitwise_146 (fun _ _ _ => dsC_181 P W _) (fun _ _ => nn181) rfl ?_
    refine r_aload_n 148 0 dX11_bitwise_147 rfl rfl rfl ?_
    refine r_get 151 (aR 181) dX11_bitwise_148 fkX11_85 (fun _ => dsC_180 P W _) nn180 rfl rfl ?_
    refine r_iload_n 152 2 dX11_bitwise_151 rfl rfl rfl ?_
    refine r_iload 154 4 dX11_bitwise_152 rfl rfl ?_
    refine r_iadd 155 dX11_bitwise_154 rfl ?_
    refine r_iald 156 dX11_bitwise_155 (fun _ _ _ => dsC_181 P W _) (fun _ _ => nn181) rfl ?_
    refine r_callvI 159 (Mc := MCi_and P W) (o := 140) (as := [aI (G 181 (x2 + x5)), aI (G 181 (x3 + x5))]) (st := [aI x5, aR 207]) dX11_bitwise_156 rfl (c_Ci_and P W (G 181 (x2 + x5)) (G 181 (x3 + x5)) G) lkX11_297 (cmCi_and P W) rfl rfl rfl (fun _ => dsC_140 P W _) nn140 rfl (Nat.le_of_ble_eq_true rfl) (Nat.le_of_ble_eq_true rfl) (fun _ => rfl) rfl (fun z10 G11 => ?_)
    refine r_iast 160 dX11_bitwise_159 (fun _ _ _ => dsC_207 P W _) (fun _ _ => nn207) rfl ?_
    refine ss_tk (fun G12 => ?_)
    refine r_iinc 163 [(5, aI (x5 + 1)), (0, aR 180), (2, aI x2), (3, aI x3), (4, aI x4)] 4 dX11_bitwise_160 rfl rfl rfl rfl ?_
    refine r_goto 121 dX11_bitwise_163 rfl ?_
    refine r_to [1, 2, 3, 4, 0] [(0, aR 180), (2, aI x2), (3, aI x3), (4, aI x4), (5, aI (x5 + 1))] rfl ?_
    exact SS.back (hX121 (x5 + 1, G12))
theorem sl_Bd_bitwise_121 (P W : Int) (x2 : Int) (x3 : Int) (x4 : Int) (x5 : Int) (G : St) : SS (MBd_bitwise P W) some 121 [(0, aR 180), (2, aI x2), (3, aI x3), (4, aI x4), (5, aI x5)] [] G (Bd_bitwise_l121 P W x2 x3 x4 x5 G) := by
  exact SS.loop (σ := Int × St) (fun s => [(0, aR 180), (2, aI x2), (3, aI x3), (4, aI x4), (5, aI (s.1))]) (fun s => s.2) (fun s => Bd_bitwise_s121 P W x2 x3 x4 s.1 s.2) (fun X121 hX121 s => s_Bd_bitwise_s121 P W x2 x3 x4  X121 hX121 s.1 s.2) (x5, G)
theorem s_Bd_bitwise_b118 (P W : Int) (x2 : Int) (x3 : Int) (x4 : Int) (G : St) : SS (MBd_bitwise P W) some 118 [(0, aR 180), (2, aI x2), (3, aI x3), (4, aI x4)] [] G (Bd_bitwise_b118 P W x2 x3 x4 G) := by
  refine r_iconst 119 0 dX11_bitwise_118 rfl rfl ?_
  refine r_istore 121 [(5, aI 0), (0, aR 180), (2, aI x2), (3, aI x3), (4, aI x4)] dX11_bitwise_119 rfl rfl rfl ?_
  refine r_to [1, 2, 3, 4, 0] [(0, aR 180), (2, aI x2), (3, aI x3), (4, aI x4), (5, aI 0)] rfl ?_
  exact sl_Bd_bitwise_121 P W x2 x3 x4 0 G
theorem s_Bd_bitwise_s179 (P W : Int) (x2 : Int) (x3 : Int) (x4 : Int) (X179 : Int × St → Option (Int × St)) (hX179 : ∀ s, So (MBd_bitwise P W) 179 [(0, aR 180), (2, aI x2), (3, aI x3), (4, aI x4), (5, aI (s.1))] [] s.2 (X179 s)) (x5 : Int) (G : St) : SS (MBd_bitwise P W) (lk X179 some) 179 [(0, aR 180), (2, aI x2), (3, aI x3), (4, aI x4), (5, aI x5)] [] G (Bd_bitwise_s179 P W x2 x3 x4 x5 G) := by
  refine r_iload 181 4 dX11_bitwise_179 rfl rfl ?_
  refine r_iload 183 3 dX11_bitwise_181 rfl rfl ?_
  refine r_icmp_ge 224 186 dX11_bitwise_183 rfl rfl ?_ ?_
  · refine SS.ex ?_
    refine r_aload_n 225 0 dX11_bitwise_224 rfl rfl rfl ?_
    refine r_iconst 226 2 dX11_bitwise_225 rfl rfl ?_
    refine r_iload 228 3 dX11_bitwise_226 rfl rfl ?_
    refine r_callvV 231 (Mc := MBd_settle P W) (o := 180) (as := [aI 2, aI x4]) (st := []) dX11_bitwise_228 rfl (c_Bd_settle P W 2 x4 G) lkX11_303 (cmBd_settle P W) rfl rfl rfl (fun _ => dsC_180 P W _) nn180 rfl (Nat.le_of_ble_eq_true rfl) (Nat.le_of_ble_eq_true rfl) (fun _ => rfl) rfl (fun z13 G14 => ?_)
    refine r_goto 263 dX11_bitwise_231 rfl ?_
    exact r_return dX11_bitwise_263 rfl
  · refine r_aload_n 187 0 dX11_bitwise_186 rfl rfl rfl ?_
    refine r_get 190 (aR 207) dX11_bitwise_187 fkX11_100 (fun _ => dsC_180 P W _) nn180 rfl rfl ?_
    refine r_iload 192 4 dX11_bitwise_190 rfl rfl ?_
    refine r_aload_n 193 0 dX11_bitwise_192 rfl rfl rfl ?_
    refine r_get 196 (aR 140) dX11_bitwise_193 fkX11_72 (fun _ => dsC_180 P W _) nn180 rfl rfl ?_
    refine r_aload_n 197 0 dX11_bitwise_196 rfl rfl rfl ?_
    refine r_get 200 (aR 181) dX11_bitwise_197 fkX11_85 (fun _ => dsC_180 P W _) nn180 rfl rfl ?_
    refine r_iload_n 201 1 dX11_bitwise_200 rfl rfl rfl ?_
    refine r_iload 203 4 dX11_bitwise_201 rfl rfl ?_
    refine r_iadd 204 dX11_bitwise_203 rfl ?_
    refine r_iald 205 dX11_bitwise_204 (fun _ _ _ => dsC_181 P W _) (fun _ _ => nn181) rfl ?_
    refine r_aload_n 206 0 dX11_bitwise_205 rfl rfl rfl ?_
    refine r_get 209 (aR 181) dX11_bitwise_206 fkX11_85 (fun _ => dsC_180 P W _) nn180 rfl rfl ?_
    refine r_iload_n 210 2 dX11_bitwise_209 rfl rfl rfl ?_
    refine r_iload 212 4 dX11_bitwise_210 rfl rfl ?_
    refine r_iadd 213 dX11_bitwise_212 rfl ?_
    refine r_iald 214 dX11_bitwise_213 (fun _ _ _ => dsC_181 P W _) (fun _ _ => nn181) rfl ?_
    refine r_callvI 217 (Mc := MCi_xor P W) (o := 140) (as := [aI (G 181 (x2 + x5)), aI (G 181 (x3 + x5))]) (st := [aI x5, aR 207]) dX11_bitwise_214 rfl (c_Ci_xor P W (G 181 (x2 + x5)) (G 181 (x3 + x5)) G) lkX11_300 (cmCi_xor P W) rfl rfl rfl (fun _ => dsC_140 P W _) nn140 rfl (Nat.le_of_ble_eq_true rfl) (Nat.le_of_ble_eq_true rfl) (fun _ => rfl) rfl (fun z15 G16 => ?_)
    refine r_iast 218 dX11_bitwise_217 (fun _ _ _ => dsC_207 P W _) (fun _ _ => nn207) rfl ?_
    refine ss_tk (fun G17 => ?_)
    refine r_iinc 221 [(5, aI (x5 + 1)), (0, aR 180), (2, aI x2), (3, aI x3), (4, aI x4)] 4 dX11_bitwise_218 rfl rfl rfl rfl ?_
    refine r_goto 179 dX11_bitwise_221 rfl ?_
    refine r_to [1, 2, 3, 4, 0] [(0, aR 180), (2, aI x2), (3, aI x3), (4, aI x4), (5, aI (x5 + 1))] rfl ?_
    exact SS.back (hX179 (x5 + 1, G17))
theorem sl_Bd_bitwise_179 (P W : Int) (x2 : Int) (x3 : Int) (x4 : Int) (x5 : Int) (G : St) : SS (MBd_bitwise P W) some 179 [(0, aR 180), (2, aI x2), (3, aI x3), (4, aI x4), (5, aI x5)] [] G (Bd_bitwise_l179 P W x2 x3 x4 x5 G) := by
  exact SS.loop (σ := Int × St) (fun s => [(0, aR 180), (2, aI x2), (3, aI x3), (4, aI x4), (5, aI (s.1))]) (fun s => s.2) (fun s => Bd_bitwise_s179 P W x2 x3 x4 s.1 s.2) (fun X179 hX179 s => s_Bd_bitwise_s179 P W x2 x3 x4  X179 hX179 s.1 s.2) (x5, G)
theorem s_Bd_bitwise_b176 (P W : Int) (x2 : Int) (x3 : Int) (x4 : Int) (G : St) : SS (MBd_bitwise P W) some 176 [(0, aR 180), (2, aI x2), (3, aI x3), (4, aI x4)] [] G (Bd_bitwise_b176 P W x2 x3 x4 G) := by
  refine r_iconst 177 0 dX11_bitwise_176 rfl rfl ?_
  refine r_istore 179 [(5, aI 0), (0, aR 180), (2, aI x2), (3, aI x3), (4, aI x4)] dX11_bitwise_177 rfl rfl rfl ?_
  refine r_to [1, 2, 3, 4, 0] [(0, aR 180), (2, aI x2), (3, aI x3), (4, aI x4), (5, aI 0)] rfl ?_
  exact sl_Bd_bitwise_179 P W x2 x3 x4 0 G
theorem s_Bd_bitwise_b234 (P W : Int) (x1 : Int) (x2 : Int) (x3 : Int) (x4 : Int) (G : St) : SS (MBd_bitwise P W) some 234 [(0, aR 180), (1, aI x1), (2, aI x2), (3, aI x3), (4, aI x4)] [] G (Bd_bitwise_b234 P W x1 x2 x3 x4 G) := by
  refine r_aload_n 235 0 dX11_bitwise_234 rfl rfl rfl ?_
  refine r_get 238 (aR 207) dX11_bitwise_235 fkX11_100 (fun _ => dsC_180 P W _) nn180 rfl rfl ?_
  refine r_iconst 239 0 dX11_bitwise_238 rfl rfl ?_
  refine r_aload_n 240 0 dX11_bitwise_239 rfl rfl rfl ?_
  refine r_aload_n 241 0 dX11_bitwise_240 rfl rfl rfl ?_
  refine r_get 244 (aR 110) dX11_bitwise_241 fkX11_64 (fun _ => dsC_180 P W _) nn180 rfl rfl ?_
  refine r_get 247 (aR 111) dX11_bitwise_244 fkX11_172 (fun _ => dsC_110 P W _) nn110 rfl rfl ?_
  refine r_iload_n 248 1 dX11_bitwise_247 rfl rfl rfl ?_
  refine r_aald5 249 dX11_bitwise_248 (fun _ _ _ => dsC_111 P W _) (fun _ _ => nn111) rfl ?_
  refine r_iload_n 250 2 dX11_bitwise_249 rfl rfl rfl ?_
  refine r_iload_n 251 3 dX11_bitwise_250 rfl rfl rfl ?_
  refine r_iload 253 4 dX11_bitwise_251 rfl rfl ?_
  refine r_callvI 256 (Mc := MBd_compared P W) (o := 180) (as := [aR (G 111 x1), aI x2, aI x3, aI x4]) (st := [aI 0, aR 207]) dX11_bitwise_253 rfl (c_Bd_compared P W (G 111 x1) x2 x3 x4 G) lkX11_337 (cmBd_compared P W) rfl rfl rfl (fun _ => dsC_180 P W _) nn180 rfl (Nat.le_of_ble_eq_true rfl) (Nat.le_of_ble_eq_true rfl) (fun _ => rfl) rfl (fun z18 G19 => ?_)
  refine r_iast 257 dX11_bitwise_256 (fun _ _ _ => dsC_207 P W _) (fun _ _ => nn207) rfl ?_
  refine ss_tk (fun G20 => ?_)
  refine r_aload_n 258 0 dX11_bitwise_257 rfl rfl rfl ?_
  refine r_iconst 259 2 dX11_bitwise_258 rfl rfl ?_
  refine r_iconst 260 1 dX11_bitwise_259 rfl rfl ?_
  refine r_callvV 263 (Mc := MBd_settle P W) (o := 180) (as := [aI 2, aI 1]) (st := []) dX11_bitwise_260 rfl (c_Bd_settle P W 2 1 G20) lkX11_303 (cmBd_settle P W) rfl rfl rfl (fun _ => dsC_180 P W _) nn180 rfl (Nat.le_of_ble_eq_true rfl) (Nat.le_of_ble_eq_true rfl) (fun _ => rfl) rfl (fun z21 G22 => ?_)
  exact r_return dX11_bitwise_263 rfl
theorem s_Bd_bitwise (P W : Int) (x1 : Int) (x2 : Int) (x3 : Int) (G : St) : SS (MBd_bitwise P W) some 0 [(0, aR 180), (1, aI x1), (2, aI x2), (3, aI x3)] [] G (Bd_bitwise P W x1 x2 x3 G) := by
  refine r_aload_n 1 0 dX11_bitwise_0 rfl rfl rfl ?_
  refine r_aload_n 2 0 dX11_bitwise_1 rfl rfl rfl ?_
  refine r_get 5 (aR 110) dX11_bitwise_2 fkX11_64 (fun _ => dsC_180 P W _) nn180 rfl rfl ?_
  refine r_get 8 (aR 114) dX11_bitwise_5 fkX11_200 (fun _ => dsC_110 P W _) nn110 rfl rfl ?_
  refine r_iload_n 9 1 dX11_bitwise_8 rfl rfl rfl ?_
  refine r_iald 10 dX11_bitwise_9 (fun _ _ _ => dsC_114 P W _) (fun _ _ => nn114) rfl ?_
  refine r_callvI 13 (Mc := MBd_bits P W) (o := 180) (as := [aI (G 114 x1)]) (st := []) dX11_bitwise_10 rfl (c_Bd_bits P W (G 114 x1) G) lkX11_248 (cmBd_bits P W) rfl rfl rfl (fun _ => dsC_180 P W _) nn180 rfl (Nat.le_of_ble_eq_true rfl) (Nat.le_of_ble_eq_true rfl) (fun _ => rfl) rfl (fun z1 G2 => ?_)
  refine r_istore 15 [(4, aI z1), (0, aR 180), (1, aI x1), (2, aI x2), (3, aI x3)] dX11_bitwise_13 rfl rfl rfl ?_
  refine r_aload_n 16 1 dX11_bitwise_15 rfl rfl rfl ?_
  refine r_get 19 (aR 110) dX11_bitwise_16 fkX11_64 (fun _ => dsC_180 P W _) nn180 rfl rfl ?_
  refine r_get 22 (aR 111) dX11_bitwise_19 fkX11_172 (fun _ => dsC_110 P W _) nn110 rfl rfl ?_
  refine r_iload_n 23 2 dX11_bitwise_22 rfl rfl rfl ?_
  refine r_aald5 24 dX11_bitwise_23 (fun _ _ _ => dsC_111 P W _) (fun _ _ => nn111) rfl ?_
  refine r_ord 27 dX11_bitwise_24 q1436 rfl (Nat.le_of_ble_eq_true rfl) (Nat.le_of_ble_eq_true rfl) rfl ?_
  refine r_tsw 234 [(60, Bd_bitwise_b60 P W x2 x3 z1 G2), (118, Bd_bitwise_b118 P W x2 x3 z1 G2), (60, Bd_bitwise_b60 P W x2 x3 z1 G2), (176, Bd_bitwise_b176 P W x2 x3 z1 G2), (118, Bd_bitwise_b118 P W x2 x3 z1 G2)] dX11_bitwise_27 rfl rfl rfl ⟨?_, ?_, ?_, ?_, ?_, trivial⟩ ?_
  · refine r_to [1, 3, 4, 0] [(0, aR 180), (2, aI x2), (3, aI x3), (4, aI z1)] rfl ?_
    exact s_Bd_bitwise_b60 P W x2 x3 z1 G2
  · refine r_to [1, 3, 4, 0] [(0, aR 180), (2, aI x2), (3, aI x3), (4, aI z1)] rfl ?_
    exact s_Bd_bitwise_b118 P W x2 x3 z1 G2
  · refine r_to [1, 3, 4, 0] [(0, aR 180), (2, aI x2), (3, aI x3), (4, aI z1)] rfl ?_
    exact s_Bd_bitwise_b60 P W x2 x3 z1 G2
  · refine r_to [1, 3, 4, 0] [(0, aR 180), (2, aI x2), (3, aI x3), (4, aI z1)] rfl ?_
    exact s_Bd_bitwise_b176 P W x2 x3 z1 G2
  · refine r_to [1, 3, 4, 0] [(0, aR 180), (2, aI x2), (3, aI x3), (4, aI z1)] rfl ?_
    exact s_Bd_bitwise_b118 P W x2 x3 z1 G2
  · refine r_to [1, 2, 3, 4, 0] [(0, aR 180), (1, aI x1), (2, aI x2), (3, aI x3), (4, aI z1)] rfl ?_
    exact s_Bd_bitwise_b234 P W x1 x2 x3 z1 G2
theorem c_Bd_bitwise (P W : Int) (x1 : Int) (x2 : Int) (x3 : Int) (G : St) : MG (MBd_bitwise P W) [aR 180, aI x1, aI x2, aI x3] G (Bd_bitwise P W x1 x2 x3 G) := MG.of plX11 (Nat.le_of_ble_eq_true rfl) (s_Bd_bitwise P W x1 x2 x3 G)
theorem s_Bd_shift_b119 (P W : Int) (x2 : Int) (x5 : Int) (X67 : Int × St → Option (Int × St)) (hX67 : ∀ s, So (MBd_shift P W) 67 [(0, aR 180), (2, aI x2), (5, aI x5), (6, aI (s.1))] [] s.2 (X67 s)) (x6 : Int) (s0 : Int) (s1 : Int) (G : St) : SS (MBd_shift P W) (lk X67 some) 119 [(0, aR 180), (2, aI x2), (5, aI x5), (6, aI x6)] [aI s0, aI s1, aR 207] G (Bd_shift_b119 P W x2 x5 x6 s0 s1 G) := by
  refine r_iast 120 dX11_shift_119 (fun _ _ _ => dsC_207 P W _) (fun _ _ => nn207) rfl ?_
  refine ss_tk (fun G11 => ?_)
  refine r_iinc 123 [(6, aI (x6 + 1)), (0, aR 180), (2, aI x2), (5, aI x5)] 3 dX11_shift_120 rfl rfl rfl rfl ?_
  refine r_goto 67 dX11_shift_123 rfl ?_
  refine r_to [1, 2, 3, 0] [(0, aR 180), (2, aI x2), (5, aI x5), (6, aI (x6 + 1))] rfl ?_
  exact SS.back (hX67 (x6 + 1, G11))
theorem s_Bd_shift_s67 (P W : Int) (x2 : Int) (x5 : Int) (X67 : Int × St → Option (Int × St)) (hX67 : ∀ s, So (MBd_shift P W) 67 [(0, aR 180), (2, aI x2), (5, aI x5), (6, aI (s.1))] [] s.2 (X67 s)) (x6 : Int) (G : St) : SS (MBd_shift P W) (lk X67 some) 67 [(0, aR 180), (2, aI x2), (5, aI x5), (6, aI x6)] [] G (Bd_shift_s67 P W x2 x5 x6 G) := by
  refine r_iload 69 3 dX11_shift_67 rfl rfl ?_
  refine r_aload_n 70 0 dX11_shift_69 rfl rfl rfl ?_
  refine r_get 73 (aI W) dX11_shift_70 fkX11_60 (fun _ => dsC_180 P W _) nn180 rfl rfl ?_
  refine r_icmp_ge 126 76 dX11_shift_73 rfl rfl ?_ ?_
  · refine SS.ex ?_
    refine r_aload_n 127 0 dX11_shift_126 rfl rfl rfl ?_
    refine r_iconst 128 2 dX11_shift_127 rfl rfl ?_
    refine r_aload_n 129 0 dX11_shift_128 rfl rfl rfl ?_
    refine r_get 132 (aI W) dX11_shift_129 fkX11_60 (fun _ => dsC_180 P W _) nn180 rfl rfl ?_
    refine r_callvV 135 (Mc := MBd_settle P W) (o := 180) (as := [aI 2, aI W]) (st := []) dX11_shift_132 rfl (c_Bd_settle P W 2 W G) lkX11_303 (cmBd_settle P W) rfl rfl rfl (fun _ => dsC_180 P W _) nn180 rfl (Nat.le_of_ble_eq_true rfl) (Nat.le_of_ble_eq_true rfl) (fun _ => rfl) rfl (fun z9 G10 => ?_)
    exact r_return dX11_shift_135 rfl
  · refine r_aload_n 77 0 dX11_shift_76 rfl rfl rfl ?_
    refine r_get 80 (aR 207) dX11_shift_77 fkX11_100 (fun _ => dsC_180 P W _) nn180 rfl rfl ?_
    refine r_iload 82 3 dX11_shift_80 rfl rfl ?_
    refine r_iload 84 3 dX11_shift_82 rfl rfl ?_
    refine r_iload 86 2 dX11_shift_84 rfl rfl ?_
    refine r_iadd 87 dX11_shift_86 rfl ?_
    refine r_if_lt 117 90 dX11_shift_87 rfl rfl ?_ ?_
    · refine r_bipush 119 (-2) dX11_shift_117 rfl rfl ?_
      exact s_Bd_shift_b119 P W x2 x5 X67 hX67 x6 (-2) x6 G
    · refine r_iload 92 3 dX11_shift_90 rfl rfl ?_
      refine r_iload 94 2 dX11_shift_92 rfl rfl ?_
      refine r_iadd 95 dX11_shift_94 rfl ?_
      refine r_aload_n 96 0 dX11_shift_95 rfl rfl rfl ?_
      refine r_get 99 (aI W) dX11_shift_96 fkX11_60 (fun _ => dsC_180 P W _) nn180 rfl rfl ?_
      refine r_icmp_ge 117 102 dX11_shift_99 rfl rfl ?_ ?_
      · refine r_bipush 119 (-2) dX11_shift_117 rfl rfl ?_
        exact s_Bd_shift_b119 P W x2 x5 X67 hX67 x6 (-2) x6 G
      · refine r_aload_n 103 0 dX11_shift_102 rfl rfl rfl ?_
        refine r_get 106 (aR 181) dX11_shift_103 fkX11_85 (fun _ => dsC_180 P W _) nn180 rfl rfl ?_
        refine r_iload_n 107 1 dX11_shift_106 rfl rfl rfl ?_
        refine r_iload 109 3 dX11_shift_107 rfl rfl ?_
        refine r_iadd 110 dX11_shift_109 rfl ?_
        refine r_iload 112 2 dX11_shift_110 rfl rfl ?_
        refine r_iadd 113 dX11_shift_112 rfl ?_
        refine r_iald 114 dX11_shift_113 (fun _ _ _ => dsC_181 P W _) (fun _ _ => nn181) rfl ?_
        refine r_goto 119 dX11_shift_114 rfl ?_
        exact s_Bd_shift_b119 P W x2 x5 X67 hX67 x6 (G 181 ((x2 + x6) + x5)) x6 G
theorem sl_Bd_shift_67 (P W : Int) (x2 : Int) (x5 : Int) (x6 : Int) (G : St) : SS (MBd_shift P W) some 67 [(0, aR 180), (2, aI x2), (5, aI x5), (6, aI x6)] [] G (Bd_shift_l67 P W x2 x5 x6 G) := by
  exact SS.loop (σ := Int × St) (fun s => [(0, aR 180), (2, aI x2), (5, aI x5), (6, aI (s.1))]) (fun s => s.2) (fun s => Bd_shift_s67 P W x2 x5 s.1 s.2) (fun X67 hX67 s => s_Bd_shift_s67 P W x2 x5  X67 hX67 s.1 s.2) (x6, G)
theorem s_Bd_shift_b62 (P W : Int) (x2 : Int) (s0 : Int) (G : St) : SS (MBd_shift P W) some 62 [(0, aR 180), (2, aI x2)] [aI s0] G (Bd_shift_b62 P W x2 s0 G) := by
  refine r_istore 64 [(5, aI s0), (0, aR 180), (2, aI x2)] dX11_shift_62 rfl rfl rfl ?_
  refine r_iconst 65 0 dX11_shift_64 rfl rfl ?_
  refine r_istore 67 [(6, aI 0), (5, aI s0), (0, aR 180), (2, aI x2)] dX11_shift_65 rfl rfl rfl ?_
  refine r_to [2, 3, 1, 0] [(0, aR 180), (2, aI x2), (5, aI s0), (6, aI 0)] rfl ?_
  exact sl_Bd_shift_67 P W x2 s0 0 G
theorem s_Bd_shift (P W : Int) (x1 : Int) (x2 : Int) (G : St) : SS (MBd_shift P W) some 0 [(0, aR 180), (1, aI x1), (2, aI x2)] [] G (Bd_shift P W x1 x2 G) := by
  refine r_aload_n 1 0 dX11_shift_0 rfl rfl rfl ?_
  refine r_aload_n 2 0 dX11_shift_1 rfl rfl rfl ?_
  refine r_iconst 3 1 dX11_shift_2 rfl rfl ?_
  refine r_callvI 6 (Mc := MBd_place P W) (o := 180) (as := [aI 1]) (st := [aR 180]) dX11_shift_3 rfl (c_Bd_place P W 1 G) lkX11_218 (cmBd_place P W) rfl rfl rfl (fun _ => dsC_180 P W _) nn180 rfl (Nat.le_of_ble_eq_true rfl) (Nat.le_of_ble_eq_true rfl) (fun _ => rfl) rfl (fun z1 G2 => ?_)
  refine r_callvL 9 (Mc := MBd_valueOf P W) (o := 180) (as := [aI z1]) (st := []) dX11_shift_6 rfl (c_Bd_valueOf P W z1 G2) lkX11_222 (cmBd_valueOf P W) rfl rfl rfl (fun _ => dsC_180 P W _) nn180 rfl (Nat.le_of_ble_eq_true rfl) (Nat.le_of_ble_eq_true rfl) (fun _ => rfl) rfl (fun z3 G4 => ?_)
  refine r_lstore_n 10 [(3, aL z3), (0, aR 180), (1, aI x1), (2, aI x2)] dX11_shift_9 rfl rfl rfl rfl ?_
  refine r_aload_n 11 1 dX11_shift_10 rfl rfl rfl ?_
  refine r_lload_n 12 0 dX11_shift_11 rfl rfl rfl ?_
  refine r_aload_n 13 1 dX11_shift_12 rfl rfl rfl ?_
  refine r_get 16 (aI W) dX11_shift_13 fkX11_60 (fun _ => dsC_180 P W _) nn180 rfl rfl ?_
  refine r_aload_n 17 1 dX11_shift_16 rfl rfl rfl ?_
  refine r_get 20 (aR 110) dX11_shift_17 fkX11_64 (fun _ => dsC_180 P W _) nn180 rfl rfl ?_
  refine r_get 23 (aR 114) dX11_shift_20 fkX11_200 (fun _ => dsC_110 P W _) nn110 rfl rfl ?_
  refine r_iload_n 24 2 dX11_shift_23 rfl rfl rfl ?_
  refine r_iald 25 dX11_shift_24 (fun _ _ _ => dsC_114 P W _) (fun _ _ => nn114) rfl ?_
  refine r_callvV 28 (Mc := MBd_needBelow P W) (o := 180) (as := [aL z3, aI W, aI (G4 114 x1)]) (st := []) dX11_shift_25 rfl (c_Bd_needBelow P W z3 W (G4 114 x1) G4) lkX11_226 (cmBd_needBelow P W) rfl rfl rfl (fun _ => dsC_180 P W _) nn180 rfl (Nat.le_of_ble_eq_true rfl) (Nat.le_of_ble_eq_true rfl) (fun _ => rfl) rfl (fun z5 G6 => ?_)
  refine r_aload_n 29 1 dX11_shift_28 rfl rfl rfl ?_
  refine r_get 32 (aR 130) dX11_shift_29 fkX11_68 (fun _ => dsC_180 P W _) nn180 rfl rfl ?_
  refine r_callvI 35 (Mc := MFt_is P W) (o := 130) (as := []) (st := []) dX11_shift_32 rfl (c_Ft_is P W G6) lkX11_144 (cmFt_is P W) rfl rfl rfl (fun _ => dsC_130 P W _) nn130 rfl (Nat.le_of_ble_eq_true rfl) (Nat.le_of_ble_eq_true rfl) (fun _ => rfl) rfl (fun z7 G8 => ?_)
  refine r_if_eq 39 38 dX11_shift_35 rfl rfl ?_ ?_
  · refine r_aload_n 40 1 dX11_shift_39 rfl rfl rfl ?_
    refine r_get 43 (aR 110) dX11_shift_40 fkX11_64 (fun _ => dsC_180 P W _) nn180 rfl rfl ?_
    refine r_get 46 (aR 111) dX11_shift_43 fkX11_172 (fun _ => dsC_110 P W _) nn110 rfl rfl ?_
    refine r_iload_n 47 2 dX11_shift_46 rfl rfl rfl ?_
    refine r_aald5 48 dX11_shift_47 (fun _ _ _ => dsC_111 P W _) (fun _ _ => nn111) rfl ?_
    refine r_gets 51 49 dX11_shift_48 q1511 rfl rfl ?_
    refine r_acmp_ne 60 54 dX11_shift_51 rfl rfl ?_ ?_
    · refine r_lload_n 61 0 dX11_shift_60 rfl rfl rfl ?_
      refine r_l2iw 62 dX11_shift_61 rfl ?_
      refine r_to [1, 3] [(0, aR 180), (2, aI x2)] rfl ?_
      exact s_Bd_shift_b62 P W x2 (w32 z3) G8
    · refine r_lload_n 55 0 dX11_shift_54 rfl rfl rfl ?_
      refine r_lneg 56 dX11_shift_55 rfl ?_
      refine r_l2iw 57 dX11_shift_56 rfl ?_
      refine r_goto 62 dX11_shift_57 rfl ?_
      refine r_to [1, 3] [(0, aR 180), (2, aI x2)] rfl ?_
      exact s_Bd_shift_b62 P W x2 (w32 (-z3)) G8
  · exact r_return dX11_shift_38 rfl
theorem c_Bd_shift (P W : Int) (x1 : Int) (x2 : Int) (G : St) : MG (MBd_shift P W) [aR 180, aI x1, aI x2] G (Bd_shift P W x1 x2 G) := MG.of plX11 (Nat.le_of_ble_eq_true rfl) (s_Bd_shift P W x1 x2 G)
theorem s_Ci_mux (P W : Int) (x1 : Int) (x2 : Int) (x3 : Int) (G : St) : SS (MCi_mux P W) some 0 [(0, aR 140), (1, aI x1), (2, aI x2), (3, aI x3)] [] G (Ci_mux x1 x2 x3 G) := by
  refine r_aload_n 1 0 dX5_mux_0 rfl rfl rfl ?_
  refine r_iload_n 2 3 dX5_mux_1 rfl rfl rfl ?_
  refine r_aload_n 3 0 dX5_mux_2 rfl rfl rfl ?_
  refine r_iload_n 4 1 dX5_mux_3 rfl rfl rfl ?_
  refine r_aload_n 5 0 dX5_mux_4 rfl rfl rfl ?_
  refine r_iload_n 6 2 dX5_mux_5 rfl rfl rfl ?_
  refine r_iload_n 7 3 dX5_mux_6 rfl rfl rfl ?_
  refine r_callvI 10 (Mc := MCi_xor P W) (o := 140) (as := [aI x2, aI x3]) (st := [aI x1, aR 140, aI x3, aR 140]) dX5_mux_7 rfl (c_Ci_xor P W x2 x3 G) lkX5_61 (cmCi_xor P W) rfl rfl rfl (fun _ => dsC_140 P W _) nn140 rfl (Nat.le_of_ble_eq_true rfl) (Nat.le_of_ble_eq_true rfl) (fun _ => rfl) rfl (fun z1 G2 => ?_)
  refine r_callvI 13 (Mc := MCi_and P W) (o := 140) (as := [aI x1, aI z1]) (st := [aI x3, aR 140]) dX5_mux_10 rfl (c_Ci_and P W x1 z1 G2) lkX5_58 (cmCi_and P W) rfl rfl rfl (fun _ => dsC_140 P W _) nn140 rfl (Nat.le_of_ble_eq_true rfl) (Nat.le_of_ble_eq_true rfl) (fun _ => rfl) rfl (fun z3 G4 => ?_)
  refine r_callvI 16 (Mc := MCi_xor P W) (o := 140) (as := [aI x3, aI z3]) (st := []) dX5_mux_13 rfl (c_Ci_xor P W x3 z3 G4) lkX5_61 (cmCi_xor P W) rfl rfl rfl (fun _ => dsC_140 P W _) nn140 rfl (Nat.le_of_ble_eq_true rfl) (Nat.le_of_ble_eq_true rfl) (fun _ => rfl) rfl (fun z5 G6 => ?_)
  exact r_ireturn dX5_mux_16 rfl
theorem c_Ci_mux (P W : Int) (x1 : Int) (x2 : Int) (x3 : Int) (G : St) : MG (MCi_mux P W) [aR 140, aI x1, aI x2, aI x3] G (Ci_mux x1 x2 x3 G) := MG.of plX5 (Nat.le_of_ble_eq_true rfl) (s_Ci_mux P W x1 x2 x3 G)
theorem s_Wo_sum_b114 (P W : Int) (x1 : Int) (x2 : Int) (x3 : Int) (x4 : Int) (x5 : Int) (x7 : Int) (x8 : Int) (x9 : Int) (X7 : Int × Int × St → Option (Int × St)) (hX7 : ∀ s, So (MWo_sum P W) 7 [(0, aR 210), (1, aR x1), (2, aI x2), (3, aR x3), (4, aI x4), (5, aI x5), (7, aI x7), (8, aR x8), (9, aI x9), (10, aI (s.1)), (11, aI (s.2.1))] [] s.2.2 (X7 s)) (x10 : Int) (x11 : Int) (G : St) : SS (MWo_sum P W) (lk X7 some) 114 [(0, aR 210), (1, aR x1), (2, aI x2), (3, aR x3), (4, aI x4), (5, aI x5), (7, aI x7), (8, aR x8), (9, aI x9), (10, aI x10), (11, aI x11)] [] G (Wo_sum_b114 P W x1 x2 x3 x4 x5 x7 x8 x9 x10 x11 G) := by
  refine r_iinc 117 [(11, aI (x11 + 1)), (0, aR 210), (1, aR x1), (2, aI x2), (3, aR x3), (4, aI x4), (5, aI x5), (7, aI x7), (8, aR x8), (9, aI x9), (10, aI x10)] 10 dX12_sum_114 rfl rfl rfl rfl ?_
  refine r_goto 7 dX12_sum_117 rfl ?_
  refine r_to [1, 2, 3, 4, 5, 6, 7, 8, 9, 10, 0] [(0, aR 210), (1, aR x1), (2, aI x2), (3, aR x3), (4, aI x4), (5, aI x5), (7, aI x7), (8, aR x8), (9, aI x9), (10, aI x10), (11, aI (x11 + 1))] rfl ?_
  exact SS.back (hX7 (x10, x11 + 1, G))
theorem s_Wo_sum_b43 (P W : Int) (x1 : Int) (x2 : Int) (x3 : Int) (x4 : Int) (x5 : Int) (x7 : Int) (x8 : Int) (x9 : Int) (X7 : Int × Int × St → Option (Int × St)) (hX7 : ∀ s, So (MWo_sum P W) 7 [(0, aR 210), (1, aR x1), (2, aI x2), (3, aR x3), (4, aI x4), (5, aI x5), (7, aI x7), (8, aR x8), (9, aI x9), (10, aI (s.1)), (11, aI (s.2.1))] [] s.2.2 (X7 s)) (x10 : Int) (x11 : Int) (x12 : Int) (s0 : Int) (s1 : Int) (G : St) : SS (MWo_sum P W) (lk X7 some) 43 [(0, aR 210), (1, aR x1), (2, aI x2), (3, aR x3), (4, aI x4), (5, aI x5), (7, aI x7), (8, aR x8), (9, aI x9), (10, aI x10), (11, aI x11), (12, aI x12)] [aI s0, aI s1, aR 140] G (Wo_sum_b43 P W x1 x2 x3 x4 x5 x7 x8 x9 x10 x11 x12 s0 s1 G) := by
  refine r_ixor 44 dX12_sum_43 rfl ?_
  refine r_iload 46 9 dX12_sum_44 rfl rfl ?_
  refine r_callvI 49 (Mc := MCi_xor P W) (o := 140) (as := [aI (j_xo s1 s0), aI x10]) (st := []) dX12_sum_46 rfl (c_Ci_xor P W (j_xo s1 s0) x10 G) lkX12_33 (cmCi_xor P W) rfl rfl rfl (fun _ => dsC_140 P W _) nn140 rfl (Nat.le_of_ble_eq_true rfl) (Nat.le_of_ble_eq_true rfl) (fun _ => rfl) rfl (fun z1 G2 => ?_)
  refine r_istore 51 [(13, aI z1), (0, aR 210), (1, aR x1), (2, aI x2), (3, aR x3), (4, aI x4), (5, aI x5), (7, aI x7), (8, aR x8), (9, aI x9), (10, aI x10), (11, aI x11), (12, aI x12)] dX12_sum_49 rfl rfl rfl ?_
  refine r_aload 53 8 dX12_sum_51 rfl rfl ?_
  refine r_iload 55 9 dX12_sum_53 rfl rfl ?_
  refine r_iload 57 11 dX12_sum_55 rfl rfl ?_
  refine r_iadd 58 dX12_sum_57 rfl ?_
  refine r_aload_n 59 1 dX12_sum_58 rfl rfl rfl ?_
  refine r_get 62 (aR 140) dX12_sum_59 fkX12_25 (fun _ => dsC_210 P W _) nn210 rfl rfl ?_
  refine r_iload 64 12 dX12_sum_62 rfl rfl ?_
  refine r_iload 66 0 dX12_sum_64 rfl rfl ?_
  refine r_callvI 69 (Mc := MCi_xor P W) (o := 140) (as := [aI x12, aI z1]) (st := [aI (x9 + x11), aR x8]) dX12_sum_66 rfl (c_Ci_xor P W x12 z1 G2) lkX12_33 (cmCi_xor P W) rfl rfl rfl (fun _ => dsC_140 P W _) nn140 rfl (Nat.le_of_ble_eq_true rfl) (Nat.le_of_ble_eq_true rfl) (fun _ => rfl) rfl (fun z3 G4 => ?_)
  refine r_iast 70 dX12_sum_69 (fun h h0 h1 => ialC_c P W h (Int.lt_of_le_of_lt h0 h1)) (fun h0 h1 => ialC_n P W (Int.lt_of_le_of_lt h0 h1)) rfl ?_
  refine ss_tk (fun G5 => ?_)
  refine r_iload 72 11 dX12_sum_70 rfl rfl ?_
  refine r_iload 74 7 dX12_sum_72 rfl rfl ?_
  refine r_iconst 75 1 dX12_sum_74 rfl rfl ?_
  refine r_isub 76 dX12_sum_75 rfl ?_
  refine r_icmp_ge 114 79 dX12_sum_76 rfl rfl ?_ ?_
  · refine r_to [1, 2, 3, 4, 5, 6, 7, 8, 9, 10, 11] [(0, aR 210), (1, aR x1), (2, aI x2), (3, aR x3), (4, aI x4), (5, aI x5), (7, aI x7), (8, aR x8), (9, aI x9), (10, aI x10), (11, aI x11)] rfl ?_
    exact s_Wo_sum_b114 P W x1 x2 x3 x4 x5 x7 x8 x9 X7 hX7 x10 x11 G5
  · refine r_aload_n 80 1 dX12_sum_79 rfl rfl rfl ?_
    refine r_get 83 (aR 140) dX12_sum_80 fkX12_25 (fun _ => dsC_210 P W _) nn210 rfl rfl ?_
    refine r_iload 85 12 dX12_sum_83 rfl rfl ?_
    refine r_iload 87 10 dX12_sum_85 rfl rfl ?_
    refine r_callvI 90 (Mc := MCi_xor P W) (o := 140) (as := [aI x12, aI x10]) (st := []) dX12_sum_87 rfl (c_Ci_xor P W x12 x10 G5) lkX12_33 (cmCi_xor P W) rfl rfl rfl (fun _ => dsC_140 P W _) nn140 rfl (Nat.le_of_ble_eq_true rfl) (Nat.le_of_ble_eq_true rfl) (fun _ => rfl) rfl (fun z6 G7 => ?_)
    refine r_istore 92 [(14, aI z6), (13, aI z1), (0, aR 210), (1, aR x1), (2, aI x2), (3, aR x3), (4, aI x4), (5, aI x5), (7, aI x7), (8, aR x8), (9, aI x9), (10, aI x10), (11, aI x11), (12, aI x12)] dX12_sum_90 rfl rfl rfl ?_
    refine r_aload_n 93 2 dX12_sum_92 rfl rfl rfl ?_
    refine r_get 96 (aR 140) dX12_sum_93 fkX12_25 (fun _ => dsC_210 P W _) nn210 rfl rfl ?_
    refine r_iload 98 11 dX12_sum_96 rfl rfl ?_
    refine r_aload_n 99 2 dX12_sum_98 rfl rfl rfl ?_
    refine r_get 102 (aR 140) dX12_sum_99 fkX12_25 (fun _ => dsC_210 P W _) nn210 rfl rfl ?_
    refine r_iload 104 0 dX12_sum_102 rfl rfl ?_
    refine r_iload 106 1 dX12_sum_104 rfl rfl ?_
    refine r_callvI 109 (Mc := MCi_and P W) (o := 140) (as := [aI z6, aI z1]) (st := [aI x10, aR 140]) dX12_sum_106 rfl (c_Ci_and P W z6 z1 G7) lkX12_39 (cmCi_and P W) rfl rfl rfl (fun _ => dsC_140 P W _) nn140 rfl (Nat.le_of_ble_eq_true rfl) (Nat.le_of_ble_eq_true rfl) (fun _ => rfl) rfl (fun z8 G9 => ?_)
    refine r_callvI 112 (Mc := MCi_xor P W) (o := 140) (as := [aI x10, aI z8]) (st := []) dX12_sum_109 rfl (c_Ci_xor P W x10 z8 G9) lkX12_33 (cmCi_xor P W) rfl rfl rfl (fun _ => dsC_140 P W _) nn140 rfl (Nat.le_of_ble_eq_true rfl) (Nat.le_of_ble_eq_true rfl) (fun _ => rfl) rfl (fun z10 G11 => ?_)
    refine r_istore 114 [(10, aI z10), (14, aI z6), (13, aI z1), (0, aR 210), (1, aR x1), (2, aI x2), (3, aR x3), (4, aI x4), (5, aI x5), (7, aI x7), (8, aR x8), (9, aI x9), (11, aI x11), (12, aI x12)] dX12_sum_112 rfl rfl rfl ?_
    refine r_to [3, 4, 5, 6, 7, 8, 9, 10, 11, 0, 12] [(0, aR 210), (1, aR x1), (2, aI x2), (3, aR x3), (4, aI x4), (5, aI x5), (7, aI x7), (8, aR x8), (9, aI x9), (10, aI z10), (11, aI x11)] rfl ?_
    exact s_Wo_sum_b114 P W x1 x2 x3 x4 x5 x7 x8 x9 X7 hX7 z10 x11 G11
theorem s_Wo_sum_s7 (P W : Int) (x1 : Int) (x2 : Int) (x3 : Int) (x4 : Int) (x5 : Int) (x7 : Int) (x8 : Int) (x9 : Int) (X7 : Int × Int × St → Option (Int × St)) (hX7 : ∀ s, So (MWo_sum P W) 7 [(0, aR 210), (1, aR x1), (2, aI x2), (3, aR x3), (4, aI x4), (5, aI x5), (7, aI x7), (8, aR x8), (9, aI x9), (10, aI (s.1)), (11, aI (s.2.1))] [] s.2.2 (X7 s)) (x10 : Int) (x11 : Int) (G : St) : SS (MWo_sum P W) (lk X7 some) 7 [(0, aR 210), (1, aR x1), (2, aI x2), (3, aR x3), (4, aI x4), (5, aI x5), (7, aI x7), (8, aR x8), (9, aI x9), (10, aI x10), (11, aI x11)] [] G (Wo_sum_s7 P W x1 x2 x3 x4 x5 x7 x8 x9 x10 x11 G) := by
  refine r_iload 9 10 dX12_sum_7 rfl rfl ?_
  refine r_iload 11 6 dX12_sum_9 rfl rfl ?_
  refine r_icmp_ge 120 14 dX12_sum_11 rfl rfl ?_ ?_
  · refine SS.ex ?_
    exact r_return dX12_sum_120 rfl
  · refine r_aload_n 15 1 dX12_sum_14 rfl rfl rfl ?_
    refine r_iload_n 16 2 dX12_sum_15 rfl rfl rfl ?_
    refine r_iload 18 10 dX12_sum_16 rfl rfl ?_
    refine r_iadd 19 dX12_sum_18 rfl ?_
    refine r_iald 20 dX12_sum_19 (fun h h0 h1 => ialC_c P W h (Int.lt_of_le_of_lt h0 h1)) (fun h0 h1 => ialC_n P W (Int.lt_of_le_of_lt h0 h1)) rfl ?_
    refine r_istore 22 [(12, aI (G x1 (x2 + x11))), (0, aR 210), (1, aR x1), (2, aI x2), (3, aR x3), (4, aI x4), (5, aI x5), (7, aI x7), (8, aR x8), (9, aI x9), (10, aI x10), (11, aI x11)] dX12_sum_20 rfl rfl rfl ?_
    refine r_aload_n 23 1 dX12_sum_22 rfl rfl rfl ?_
    refine r_get 26 (aR 140) dX12_sum_23 fkX12_25 (fun _ => dsC_210 P W _) nn210 rfl rfl ?_
    refine r_aload_n 27 4 dX12_sum_26 rfl rfl rfl ?_
    refine r_iload 29 5 dX12_sum_27 rfl rfl ?_
    refine r_iload 31 11 dX12_sum_29 rfl rfl ?_
    refine r_iadd 32 dX12_sum_31 rfl ?_
    refine r_iald 33 dX12_sum_32 (fun h h0 h1 => ialC_c P W h (Int.lt_of_le_of_lt h0 h1)) (fun h0 h1 => ialC_n P W (Int.lt_of_le_of_lt h0 h1)) rfl ?_
    refine r_iload 35 6 dX12_sum_33 rfl rfl ?_
    refine SS.phi (fun VV_ => Wo_sum_b43 P W x1 x2 x3 x4 x5 x7 x8 x9 x10 x11 (G x1 (x2 + x11)) VV_ (G x3 (x4 + x11)) G) ?_
    refine r_if_eq 42 38 dX12_sum_35 rfl rfl ?_ ?_
    · refine r_iconst 43 0 dX12_sum_42 rfl rfl ?_
      refine r_to [1, 2, 3, 4, 5, 6, 7, 8, 9, 10, 11, 0] [(0, aR 210), (1, aR x1), (2, aI x2), (3, aR x3), (4, aI x4), (5, aI x5), (7, aI x7), (8, aR x8), (9, aI x9), (10, aI x10), (11, aI x11), (12, aI (G x1 (x2 + x11)))] rfl ?_
      exact s_Wo_sum_b43 P W x1 x2 x3 x4 x5 x7 x8 x9 X7 hX7 x10 x11 (G x1 (x2 + x11)) 0 (G x3 (x4 + x11)) G
    · refine r_iconst 39 1 dX12_sum_38 rfl rfl ?_
      refine r_goto 43 dX12_sum_39 rfl ?_
      refine r_to [1, 2, 3, 4, 5, 6, 7, 8, 9, 10, 11, 0] [(0, aR 210), (1, aR x1), (2, aI x2), (3, aR x3), (4, aI x4), (5, aI x5), (7, aI x7), (8, aR x8), (9, aI x9), (10, aI x10), (11, aI x11), (12, aI (G x1 (x2 + x11)))] rfl ?_
      exact s_Wo_sum_b43 P W x1 x2 x3 x4 x5 x7 x8 x9 X7 hX7 x10 x11 (G x1 (x2 + x11)) 1 (G x3 (x4 + x11)) G
theorem sl_Wo_sum_7 (P W : Int) (x1 : Int) (x2 : Int) (x3 : Int) (x4 : Int) (x5 : Int) (x7 : Int) (x8 : Int) (x9 : Int) (x10 : Int) (x11 : Int) (G : St) : SS (MWo_sum P W) some 7 [(0, aR 210), (1, aR x1), (2, aI x2), (3, aR x3), (4, aI x4), (5, aI x5), (7, aI x7), (8, aR x8), (9, aI x9), (10, aI x10), (11, aI x11)] [] G (Wo_sum_l7 P W x1 x2 x3 x4 x5 x7 x8 x9 x10 x11 G) := by
  exact SS.loop (σ := Int × Int × St) (fun s => [(0, aR 210), (1, aR x1), (2, aI x2), (3, aR x3), (4, aI x4), (5, aI x5), (7, aI x7), (8, aR x8), (9, aI x9), (10, aI (s.1)), (11, aI (s.2.1))]) (fun s => s.2.2) (fun s => Wo_sum_s7 P W x1 x2 x3 x4 x5 x7 x8 x9 s.1 s.2.1 s.2.2) (fun X7 hX7 s => s_Wo_sum_s7 P W x1 x2 x3 x4 x5 x7 x8 x9  X7 hX7 s.1 s.2.1 s.2.2) (x10, x11, G)
theorem s_Wo_sum (P W : Int) (x1 : Int) (x2 : Int) (x3 : Int) (x4 : Int) (x5 : Int) (x6 : Int) (x7 : Int) (x8 : Int) (x9 : Int) (G : St) : SS (MWo_sum P W) some 0 [(0, aR 210), (1, aR x1), (2, aI x2), (3, aR x3), (4, aI x4), (5, aI x5), (6, aI x6), (7, aI x7), (8, aR x8), (9, aI x9)] [] G (Wo_sum P W x1 x2 x3 x4 x5 x6 x7 x8 x9 G) := by
  refine r_iload 2 6 dX12_sum_0 rfl rfl ?_
  refine r_istore 4 [(10, aI x6), (0, aR 210), (1, aR x1), (2, aI x2), (3, aR x3), (4, aI x4), (5, aI x5), (6, aI x6), (7, aI x7), (8, aR x8), (9, aI x9)] dX12_sum_2 rfl rfl rfl ?_
  refine r_iconst 5 0 dX12_sum_4 rfl rfl ?_
  refine r_istore 7 [(11, aI 0), (10, aI x6), (0, aR 210), (1, aR x1), (2, aI x2), (3, aR x3), (4, aI x4), (5, aI x5), (6, aI x6), (7, aI x7), (8, aR x8), (9, aI x9)] dX12_sum_5 rfl rfl rfl ?_
  refine r_to [2, 3, 4, 5, 6, 7, 9, 10, 11, 1, 0] [(0, aR 210), (1, aR x1), (2, aI x2), (3, aR x3), (4, aI x4), (5, aI x5), (7, aI x7), (8, aR x8), (9, aI x9), (10, aI x6), (11, aI 0)] rfl ?_
  exact sl_Wo_sum_7 P W x1 x2 x3 x4 x5 x7 x8 x9 x6 0 G
theorem c_Wo_sum (P W : Int) (x1 : Int) (x2 : Int) (x3 : Int) (x4 : Int) (x5 : Int) (x6 : Int) (x7 : Int) (x8 : Int) (x9 : Int) (G : St) : MG (MWo_sum P W) [aR 210, aR x1, aI x2, aR x3, aI x4, aI x5, aI x6, aI x7, aR x8, aI x9] G (Wo_sum P W x1 x2 x3 x4 x5 x6 x7 x8 x9 G) := MG.of plX12 (Nat.le_of_ble_eq_true rfl) (s_Wo_sum P W x1 x2 x3 x4 x5 x6 x7 x8 x9 G)
theorem s_Wo_product_s142 (P W : Int) (x5 : Int) (x6 : Int) (X142 : Int × St → Option (Int × St)) (hX142 : ∀ s, So (MWo_product P W) 142 [(0, aR 210), (5, aR x5), (6, aI x6), (7, aI (s.1))] [] s.2 (X142 s)) (x7 : Int) (G : St) : SS (MWo_product P W) (lk X142 some) 142 [(0, aR 210), (5, aR x5), (6, aI x6), (7, aI x7)] [] G (Wo_product_s142 P W x5 x6 x7 G) := by
  refine r_iload 144 3 dX12_product_142 rfl rfl ?_
  refine r_aload_n 145 0 dX12_product_144 rfl rfl rfl ?_
  refine r_get 148 (aI W) dX12_product_145 fkX12_29 (fun _ => dsC_210 P W _) nn210 rfl rfl ?_
  refine r_icmp_ge 172 151 dX12_product_148 rfl rfl ?_ ?_
  · refine SS.ex ?_
    exact r_return dX12_product_172 rfl
  · refine r_aload 153 1 dX12_product_151 rfl rfl ?_
    refine r_iload 155 2 dX12_product_153 rfl rfl ?_
    refine r_iload 157 3 dX12_product_155 rfl rfl ?_
    refine r_iadd 158 dX12_product_157 rfl ?_
    refine r_aload_n 159 0 dX12_product_158 rfl rfl rfl ?_
    refine r_get 162 (aR 211) dX12_product_159 fkX12_7 (fun _ => dsC_210 P W _) nn210 rfl rfl ?_
    refine r_iload 164 3 dX12_product_162 rfl rfl ?_
    refine r_iald 165 dX12_product_164 (fun _ _ _ => dsC_211 P W _) (fun _ _ => nn211) rfl ?_
    refine r_iast 166 dX12_product_165 (fun h h0 h1 => ialC_c P W h (Int.lt_of_le_of_lt h0 h1)) (fun h0 h1 => ialC_n P W (Int.lt_of_le_of_lt h0 h1)) rfl ?_
    refine ss_tk (fun G1 => ?_)
    refine r_iinc 169 [(7, aI (x7 + 1)), (0, aR 210), (5, aR x5), (6, aI x6)] 3 dX12_product_166 rfl rfl rfl rfl ?_
    refine r_goto 142 dX12_product_169 rfl ?_
    refine r_to [1, 2, 3, 0] [(0, aR 210), (5, aR x5), (6, aI x6), (7, aI (x7 + 1))] rfl ?_
    exact SS.back (hX142 (x7 + 1, G1))
theorem sl_Wo_product_142 (P W : Int) (x5 : Int) (x6 : Int) (x7 : Int) (G : St) : SS (MWo_product P W) some 142 [(0, aR 210), (5, aR x5), (6, aI x6), (7, aI x7)] [] G (Wo_product_l142 P W x5 x6 x7 G) := by
  exact SS.loop (σ := Int × St) (fun s => [(0, aR 210), (5, aR x5), (6, aI x6), (7, aI (s.1))]) (fun s => s.2) (fun s => Wo_product_s142 P W x5 x6 s.1 s.2) (fun X142 hX142 s => s_Wo_product_s142 P W x5 x6  X142 hX142 s.1 s.2) (x7, G)
theorem s_Wo_product_s57 (P W : Int) (x1 : Int) (x2 : Int) (x3 : Int) (x4 : Int) (x5 : Int) (x6 : Int) (X45 : Int × St → Option (Int × St)) (hX45 : ∀ s, So (MWo_product P W) 45 [(0, aR 210), (1, aR x1), (2, aI x2), (3, aR x3), (4, aI x4), (5, aR x5), (6, aI x6), (7, aI (s.1))] [] s.2 (X45 s)) (x7 : Int) (X57 : Int × St → Option (Int × St)) (hX57 : ∀ s, So (MWo_product P W) 57 [(0, aR 210), (1, aR x1), (2, aI x2), (3, aR x3), (4, aI x4), (5, aR x5), (6, aI x6), (7, aI x7), (8, aI (s.1))] [] s.2 (X57 s)) (x8 : Int) (G : St) : SS (MWo_product P W) (lk X57 (lk X45 some)) 57 [(0, aR 210), (1, aR x1), (2, aI x2), (3, aR x3), (4, aI x4), (5, aR x5), (6, aI x6), (7, aI x7), (8, aI x8)] [] G (Wo_product_s57 P W x1 x2 x3 x4 x5 x6 x7 x8 G) := by
  refine r_iload 59 8 dX12_product_57 rfl rfl ?_
  refine r_aload_n 60 0 dX12_product_59 rfl rfl rfl ?_
  refine r_get 63 (aI W) dX12_product_60 fkX12_29 (fun _ => dsC_210 P W _) nn210 rfl rfl ?_
  refine r_iload 65 7 dX12_product_63 rfl rfl ?_
  refine r_isub 66 dX12_product_65 rfl ?_
  refine r_icmp_ge 102 69 dX12_product_66 rfl rfl ?_ ?_
  · refine SS.ex ?_
    refine r_aload_n 103 0 dX12_product_102 rfl rfl rfl ?_
    refine r_aload_n 104 0 dX12_product_103 rfl rfl rfl ?_
    refine r_get 107 (aR 211) dX12_product_104 fkX12_7 (fun _ => dsC_210 P W _) nn210 rfl rfl ?_
    refine r_iload 109 7 dX12_product_107 rfl rfl ?_
    refine r_aload_n 110 0 dX12_product_109 rfl rfl rfl ?_
    refine r_get 113 (aR 212) dX12_product_110 fkX12_13 (fun _ => dsC_210 P W _) nn210 rfl rfl ?_
    refine r_iconst 114 0 dX12_product_113 rfl rfl ?_
    refine r_iconst 115 0 dX12_product_114 rfl rfl ?_
    refine r_bipush 117 (-2) dX12_product_115 rfl rfl ?_
    refine r_aload_n 118 0 dX12_product_117 rfl rfl rfl ?_
    refine r_get 121 (aI W) dX12_product_118 fkX12_29 (fun _ => dsC_210 P W _) nn210 rfl rfl ?_
    refine r_iload 123 7 dX12_product_121 rfl rfl ?_
    refine r_isub 124 dX12_product_123 rfl ?_
    refine r_aload_n 125 0 dX12_product_124 rfl rfl rfl ?_
    refine r_get 128 (aR 211) dX12_product_125 fkX12_7 (fun _ => dsC_210 P W _) nn210 rfl rfl ?_
    refine r_iload 130 7 dX12_product_128 rfl rfl ?_
    refine r_callvV 133 (Mc := MWo_sum P W) (o := 210) (as := [aR 211, aI x7, aR 212, aI 0, aI 0, aI (-2), aI (W - x7), aR 211, aI x7]) (st := []) dX12_product_130 rfl (c_Wo_sum P W 211 x7 212 0 0 (-2) (W - x7) 211 x7 G) lkX12_42 (cmWo_sum P W) rfl rfl rfl (fun _ => dsC_210 P W _) nn210 rfl (Nat.le_of_ble_eq_true rfl) (Nat.le_of_ble_eq_true rfl) (fun _ => rfl) rfl (fun z2 G3 => ?_)
    refine r_iinc 136 [(7, aI (x7 + 1)), (0, aR 210), (1, aR x1), (2, aI x2), (3, aR x3), (4, aI x4), (5, aR x5), (6, aI x6), (8, aI x8)] 7 dX12_product_133 rfl rfl rfl rfl ?_
    refine r_goto 45 dX12_product_136 rfl ?_
    refine r_to [1, 2, 3, 4, 5, 6, 7, 0] [(0, aR 210), (1, aR x1), (2, aI x2), (3, aR x3), (4, aI x4), (5, aR x5), (6, aI x6), (7, aI (x7 + 1))] rfl ?_
    exact SS.back (hX45 (x7 + 1, G3))
  · refine r_aload_n 70 0 dX12_product_69 rfl rfl rfl ?_
    refine r_get 73 (aR 212) dX12_product_70 fkX12_13 (fun _ => dsC_210 P W _) nn210 rfl rfl ?_
    refine r_iload 75 8 dX12_product_73 rfl rfl ?_
    refine r_aload_n 76 0 dX12_product_75 rfl rfl rfl ?_
    refine r_get 79 (aR 140) dX12_product_76 fkX12_25 (fun _ => dsC_210 P W _) nn210 rfl rfl ?_
    refine r_aload_n 80 1 dX12_product_79 rfl rfl rfl ?_
    refine r_iload_n 81 2 dX12_product_80 rfl rfl rfl ?_
    refine r_iload 83 8 dX12_product_81 rfl rfl ?_
    refine r_iadd 84 dX12_product_83 rfl ?_
    refine r_iald 85 dX12_product_84 (fun h h0 h1 => ialC_c P W h (Int.lt_of_le_of_lt h0 h1)) (fun h0 h1 => ialC_n P W (Int.lt_of_le_of_lt h0 h1)) rfl ?_
    refine r_aload_n 86 3 dX12_product_85 rfl rfl rfl ?_
    refine r_iload 88 4 dX12_product_86 rfl rfl ?_
    refine r_iload 90 7 dX12_product_88 rfl rfl ?_
    refine r_iadd 91 dX12_product_90 rfl ?_
    refine r_iald 92 dX12_product_91 (fun h h0 h1 => ialC_c P W h (Int.lt_of_le_of_lt h0 h1)) (fun h0 h1 => ialC_n P W (Int.lt_of_le_of_lt h0 h1)) rfl ?_
    refine r_callvI 95 (Mc := MCi_and P W) (o := 140) (as := [aI (G x1 (x2 + x8)), aI (G x3 (x4 + x7))]) (st := [aI x8, aR 212]) dX12_product_92 rfl (c_Ci_and P W (G x1 (x2 + x8)) (G x3 (x4 + x7)) G) lkX12_39 (cmCi_and P W) rfl rfl rfl (fun _ => dsC_140 P W _) nn140 rfl (Nat.le_of_ble_eq_true rfl) (Nat.le_of_ble_eq_true rfl) (fun _ => rfl) rfl (fun z4 G5 => ?_)
    refine r_iast 96 dX12_product_95 (fun _ _ _ => dsC_212 P W _) (fun _ _ => nn212) rfl ?_
    refine ss_tk (fun G6 => ?_)
    refine r_iinc 99 [(8, aI (x8 + 1)), (0, aR 210), (1, aR x1), (2, aI x2), (3, aR x3), (4, aI x4), (5, aR x5), (6, aI x6), (7, aI x7)] 8 dX12_product_96 rfl rfl rfl rfl ?_
    refine r_goto 57 dX12_product_99 rfl ?_
    refine r_to [1, 2, 3, 4, 5, 6, 7, 8, 0] [(0, aR 210), (1, aR x1), (2, aI x2), (3, aR x3), (4, aI x4), (5, aR x5), (6, aI x6), (7, aI x7), (8, aI (x8 + 1))] rfl ?_
    exact SS.back (hX57 (x8 + 1, G6))
theorem sl_Wo_product_57 (P W : Int) (x1 : Int) (x2 : Int) (x3 : Int) (x4 : Int) (x5 : Int) (x6 : Int) (X45 : Int × St → Option (Int × St)) (hX45 : ∀ s, So (MWo_product P W) 45 [(0, aR 210), (1, aR x1), (2, aI x2), (3, aR x3), (4, aI x4), (5, aR x5), (6, aI x6), (7, aI (s.1))] [] s.2 (X45 s)) (x7 : Int) (x8 : Int) (G : St) : SS (MWo_product P W) (lk X45 some) 57 [(0, aR 210), (1, aR x1), (2, aI x2), (3, aR x3), (4, aI x4), (5, aR x5), (6, aI x6), (7, aI x7), (8, aI x8)] [] G (Wo_product_l57 P W x1 x2 x3 x4 x5 x6 x7 x8 G) := by
  exact SS.loop (σ := Int × St) (fun s => [(0, aR 210), (1, aR x1), (2, aI x2), (3, aR x3), (4, aI x4), (5, aR x5), (6, aI x6), (7, aI x7), (8, aI (s.1))]) (fun s => s.2) (fun s => Wo_product_s57 P W x1 x2 x3 x4 x5 x6 x7 s.1 s.2) (fun X57 hX57 s => s_Wo_product_s57 P W x1 x2 x3 x4 x5 x6 X45 hX45 x7  X57 hX57 s.1 s.2) (x8, G)
theorem s_Wo_product_s45 (P W : Int) (x1 : Int) (x2 : Int) (x3 : Int) (x4 : Int) (x5 : Int) (x6 : Int) (X45 : Int × St → Option (Int × St)) (hX45 : ∀ s, So (MWo_product P W) 45 [(0, aR 210), (1, aR x1), (2, aI x2), (3, aR x3), (4, aI x4), (5, aR x5), (6, aI x6), (7, aI (s.1))] [] s.2 (X45 s)) (x7 : Int) (G : St) : SS (MWo_product P W) (lk X45 some) 45 [(0, aR 210), (1, aR x1), (2, aI x2), (3, aR x3), (4, aI x4), (5, aR x5), (6, aI x6), (7, aI x7)] [] G (Wo_product_s45 P W x1 x2 x3 x4 x5 x6 x7 G) := by
  refine r_iload 47 7 dX12_product_45 rfl rfl ?_
  refine r_aload_n 48 0 dX12_product_47 rfl rfl rfl ?_
  refine r_get 51 (aI W) dX12_product_48 fkX12_29 (fun _ => dsC_210 P W _) nn210 rfl rfl ?_
  refine r_icmp_ge 139 54 dX12_product_51 rfl rfl ?_ ?_
  · refine SS.ex ?_
    refine r_iconst 140 0 dX12_product_139 rfl rfl ?_
    refine r_istore 142 [(7, aI 0), (0, aR 210), (1, aR x1), (2, aI x2), (3, aR x3), (4, aI x4), (5, aR x5), (6, aI x6)] dX12_product_140 rfl rfl rfl ?_
    refine r_to [1, 6, 7, 0] [(0, aR 210), (5, aR x5), (6, aI x6), (7, aI 0)] rfl ?_
    exact sl_Wo_product_142 P W x5 x6 0 G
  · refine r_iconst 55 0 dX12_product_54 rfl rfl ?_
    refine r_istore 57 [(8, aI 0), (0, aR 210), (1, aR x1), (2, aI x2), (3, aR x3), (4, aI x4), (5, aR x5), (6, aI x6), (7, aI x7)] dX12_product_55 rfl rfl rfl ?_
    refine r_to [1, 2, 3, 4, 5, 6, 7, 8, 0] [(0, aR 210), (1, aR x1), (2, aI x2), (3, aR x3), (4, aI x4), (5, aR x5), (6, aI x6), (7, aI x7), (8, aI 0)] rfl ?_
    exact sl_Wo_product_57 P W x1 x2 x3 x4 x5 x6 X45 hX45 x7 0 G
theorem sl_Wo_product_45 (P W : Int) (x1 : Int) (x2 : Int) (x3 : Int) (x4 : Int) (x5 : Int) (x6 : Int) (x7 : Int) (G : St) : SS (MWo_product P W) some 45 [(0, aR 210), (1, aR x1), (2, aI x2), (3, aR x3), (4, aI x4), (5, aR x5), (6, aI x6), (7, aI x7)] [] G (Wo_product_l45 P W x1 x2 x3 x4 x5 x6 x7 G) := by
  exact SS.loop (σ := Int × St) (fun s => [(0, aR 210), (1, aR x1), (2, aI x2), (3, aR x3), (4, aI x4), (5, aR x5), (6, aI x6), (7, aI (s.1))]) (fun s => s.2) (fun s => Wo_product_s45 P W x1 x2 x3 x4 x5 x6 s.1 s.2) (fun X45 hX45 s => s_Wo_product_s45 P W x1 x2 x3 x4 x5 x6  X45 hX45 s.1 s.2) (x7, G)
theorem s_Wo_product_s3 (P W : Int) (x1 : Int) (x2 : Int) (x3 : Int) (x4 : Int) (x5 : Int) (x6 : Int) (X3 : Int × St → Option (Int × St)) (hX3 : ∀ s, So (MWo_product P W) 3 [(0, aR 210), (1, aR x1), (2, aI x2), (3, aR x3), (4, aI x4), (5, aR x5), (6, aI x6), (7, aI (s.1))] [] s.2 (X3 s)) (x7 : Int) (G : St) : SS (MWo_product P W) (lk X3 some) 3 [(0, aR 210), (1, aR x1), (2, aI x2), (3, aR x3), (4, aI x4), (5, aR x5), (6, aI x6), (7, aI x7)] [] G (Wo_product_s3 P W x1 x2 x3 x4 x5 x6 x7 G) := by
  refine r_iload 5 7 dX12_product_3 rfl rfl ?_
  refine r_aload_n 6 0 dX12_product_5 rfl rfl rfl ?_
  refine r_get 9 (aI W) dX12_product_6 fkX12_29 (fun _ => dsC_210 P W _) nn210 rfl rfl ?_
  refine r_icmp_ge 42 12 dX12_product_9 rfl rfl ?_ ?_
  · refine SS.ex ?_
    refine r_iconst 43 1 dX12_product_42 rfl rfl ?_
    refine r_istore 45 [(7, aI 1), (0, aR 210), (1, aR x1), (2, aI x2), (3, aR x3), (4, aI x4), (5, aR x5), (6, aI x6)] dX12_product_43 rfl rfl rfl ?_
    refine r_to [1, 2, 3, 4, 5, 6, 7, 0] [(0, aR 210), (1, aR x1), (2, aI x2), (3, aR x3), (4, aI x4), (5, aR x5), (6, aI x6), (7, aI 1)] rfl ?_
    exact sl_Wo_product_45 P W x1 x2 x3 x4 x5 x6 1 G
  · refine r_aload_n 13 0 dX12_product_12 rfl rfl rfl ?_
    refine r_get 16 (aR 211) dX12_product_13 fkX12_7 (fun _ => dsC_210 P W _) nn210 rfl rfl ?_
    refine r_iload 18 7 dX12_product_16 rfl rfl ?_
    refine r_aload_n 19 0 dX12_product_18 rfl rfl rfl ?_
    refine r_get 22 (aR 140) dX12_product_19 fkX12_25 (fun _ => dsC_210 P W _) nn210 rfl rfl ?_
    refine r_aload_n 23 1 dX12_product_22 rfl rfl rfl ?_
    refine r_iload_n 24 2 dX12_product_23 rfl rfl rfl ?_
    refine r_iload 26 7 dX12_product_24 rfl rfl ?_
    refine r_iadd 27 dX12_product_26 rfl ?_
    refine r_iald 28 dX12_product_27 (fun h h0 h1 => ialC_c P W h (Int.lt_of_le_of_lt h0 h1)) (fun h0 h1 => ialC_n P W (Int.lt_of_le_of_lt h0 h1)) rfl ?_
    refine r_aload_n 29 3 dX12_product_28 rfl rfl rfl ?_
    refine r_iload 31 4 dX12_product_29 rfl rfl ?_
    refine r_iald 32 dX12_product_31 (fun h h0 h1 => ialC_c P W h (Int.lt_of_le_of_lt h0 h1)) (fun h0 h1 => ialC_n P W (Int.lt_of_le_of_lt h0 h1)) rfl ?_
    refine r_callvI 35 (Mc := MCi_and P W) (o := 140) (as := [aI (G x1 (x2 + x7)), aI (G x3 x4)]) (st := [aI x7, aR 211]) dX12_product_32 rfl (c_Ci_and P W (G x1 (x2 + x7)) (G x3 x4) G) lkX12_39 (cmCi_and P W) rfl rfl rfl (fun _ => dsC_140 P W _) nn140 rfl (Nat.le_of_ble_eq_true rfl) (Nat.le_of_ble_eq_true rfl) (fun _ => rfl) rfl (fun z7 G8 => ?_)
    refine r_iast 36 dX12_product_35 (fun _ _ _ => dsC_211 P W _) (fun _ _ => nn211) rfl ?_
    refine ss_tk (fun G9 => ?_)
    refine r_iinc 39 [(7, aI (x7 + 1)), (0, aR 210), (1, aR x1), (2, aI x2), (3, aR x3), (4, aI x4), (5, aR x5), (6, aI x6)] 7 dX12_product_36 rfl rfl rfl rfl ?_
    refine r_goto 3 dX12_product_39 rfl ?_
    refine r_to [1, 2, 3, 4, 5, 6, 7, 0] [(0, aR 210), (1, aR x1), (2, aI x2), (3, aR x3), (4, aI x4), (5, aR x5), (6, aI x6), (7, aI (x7 + 1))] rfl ?_
    exact SS.back (hX3 (x7 + 1, G9))
theorem sl_Wo_product_3 (P W : Int) (x1 : Int) (x2 : Int) (x3 : Int) (x4 : Int) (x5 : Int) (x6 : Int) (x7 : Int) (G : St) : SS (MWo_product P W) some 3 [(0, aR 210), (1, aR x1), (2, aI x2), (3, aR x3), (4, aI x4), (5, aR x5), (6, aI x6), (7, aI x7)] [] G (Wo_product_l3 P W x1 x2 x3 x4 x5 x6 x7 G) := by
  exact SS.loop (σ := Int × St) (fun s => [(0, aR 210), (1, aR x1), (2, aI x2), (3, aR x3), (4, aI x4), (5, aR x5), (6, aI x6), (7, aI (s.1))]) (fun s => s.2) (fun s => Wo_product_s3 P W x1 x2 x3 x4 x5 x6 s.1 s.2) (fun X3 hX3 s => s_Wo_product_s3 P W x1 x2 x3 x4 x5 x6  X3 hX3 s.1 s.2) (x7, G)
theorem s_Wo_product (P W : Int) (x1 : Int) (x2 : Int) (x3 : Int) (x4 : Int) (x5 : Int) (x6 : Int) (G : St) : SS (MWo_product P W) some 0 [(0, aR 210), (1, aR x1), (2, aI x2), (3, aR x3), (4, aI x4), (5, aR x5), (6, aI x6)] [] G (Wo_product P W x1 x2 x3 x4 x5 x6 G) := by
  refine r_iconst 1 0 dX12_product_0 rfl rfl ?_
  refine r_istore 3 [(7, aI 0), (0, aR 210), (1, aR x1), (2, aI x2), (3, aR x3), (4, aI x4), (5, aR x5), (6, aI x6)] dX12_product_1 rfl rfl rfl ?_
  refine r_to [1, 2, 3, 4, 5, 6, 7, 0] [(0, aR 210), (1, aR x1), (2, aI x2), (3, aR x3), (4, aI x4), (5, aR x5), (6, aI x6), (7, aI 0)] rfl ?_
  exact sl_Wo_product_3 P W x1 x2 x3 x4 x5 x6 0 G
theorem c_Wo_product (P W : Int) (x1 : Int) (x2 : Int) (x3 : Int) (x4 : Int) (x5 : Int) (x6 : Int) (G : St) : MG (MWo_product P W) [aR 210, aR x1, aI x2, aR x3, aI x4, aR x5, aI x6] G (Wo_product P W x1 x2 x3 x4 x5 x6 G) := MG.of plX12 (Nat.le_of_ble_eq_true rfl) (s_Wo_product P W x1 x2 x3 x4 x5 x6 G)
theorem s_Wo_quotient_b316 (P W : Int) (x5 : Int) (x6 : Int) (x7 : Int) (X278 : Int × St → Option (Int × St)) (hX278 : ∀ s, So (MWo_quotient P W) 278 [(0, aR 210), (5, aI x5), (6, aR x6), (7, aI x7), (8, aI (s.1))] [] s.2 (X278 s)) (x8 : Int) (s0 : Int) (s1 : Int) (s2 : Int) (G : St) : SS (MWo_quotient P W) (lk X278 some) 316 [(0, aR 210), (5, aI x5), (6, aR x6), (7, aI x7), (8, aI x8)] [aI s0, aI s1, aR s2] G (Wo_quotient_b316 P W x5 x6 x7 x8 s0 s1 s2 G) := by
  refine r_iast 317 dX12_quotient_316 (fun h h0 h1 => ialC_c P W h (Int.lt_of_le_of_lt h0 h1)) (fun h0 h1 => ialC_n P W (Int.lt_of_le_of_lt h0 h1)) rfl ?_
  refine ss_tk (fun G1 => ?_)
  refine r_iinc 320 [(8, aI (x8 + 1)), (0, aR 210), (5, aI x5), (6, aR x6), (7, aI x7)] 4 dX12_quotient_317 rfl rfl rfl rfl ?_
  refine r_goto 278 dX12_quotient_320 rfl ?_
  refine r_to [1, 2, 3, 4, 0] [(0, aR 210), (5, aI x5), (6, aR x6), (7, aI x7), (8, aI (x8 + 1))] rfl ?_
  exact SS.back (hX278 (x8 + 1, G1))
theorem s_Wo_quotient_s278 (P W : Int) (x5 : Int) (x6 : Int) (x7 : Int) (X278 : Int × St → Option (Int × St)) (hX278 : ∀ s, So (MWo_quotient P W) 278 [(0, aR 210), (5, aI x5), (6, aR x6), (7, aI x7), (8, aI (s.1))] [] s.2 (X278 s)) (x8 : Int) (G : St) : SS (MWo_quotient P W) (lk X278 some) 278 [(0, aR 210), (5, aI x5), (6, aR x6), (7, aI x7), (8, aI x8)] [] G (Wo_quotient_s278 P W x5 x6 x7 x8 G) := by
  refine r_iload 280 4 dX12_quotient_278 rfl rfl ?_
  refine r_aload_n 281 0 dX12_quotient_280 rfl rfl rfl ?_
  refine r_get 284 (aI W) dX12_quotient_281 fkX12_29 (fun _ => dsC_210 P W _) nn210 rfl rfl ?_
  refine r_icmp_ge 323 287 dX12_quotient_284 rfl rfl ?_ ?_
  · refine SS.ex ?_
    exact r_return dX12_quotient_323 rfl
  · refine r_aload 289 2 dX12_quotient_287 rfl rfl ?_
    refine r_iload 291 3 dX12_quotient_289 rfl rfl ?_
    refine r_iload 293 4 dX12_quotient_291 rfl rfl ?_
    refine r_iadd 294 dX12_quotient_293 rfl ?_
    refine r_iload 296 1 dX12_quotient_294 rfl rfl ?_
    refine r_if_eq 309 299 dX12_quotient_296 rfl rfl ?_ ?_
    · refine r_aload_n 310 0 dX12_quotient_309 rfl rfl rfl ?_
      refine r_get 313 (aR 211) dX12_quotient_310 fkX12_7 (fun _ => dsC_210 P W _) nn210 rfl rfl ?_
      refine r_iload 315 4 dX12_quotient_313 rfl rfl ?_
      refine r_iald 316 dX12_quotient_315 (fun _ _ _ => dsC_211 P W _) (fun _ _ => nn211) rfl ?_
      exact s_Wo_quotient_b316 P W x5 x6 x7 X278 hX278 x8 (G 211 x8) (x7 + x8) x6 G
    · refine r_aload_n 300 0 dX12_quotient_299 rfl rfl rfl ?_
      refine r_get 303 (aR 213) dX12_quotient_300 fkX12_16 (fun _ => dsC_210 P W _) nn210 rfl rfl ?_
      refine r_iload 305 4 dX12_quotient_303 rfl rfl ?_
      refine r_iald 306 dX12_quotient_305 (fun _ _ _ => dsC_213 P W _) (fun _ _ => nn213) rfl ?_
      refine r_goto 316 dX12_quotient_306 rfl ?_
      exact s_Wo_quotient_b316 P W x5 x6 x7 X278 hX278 x8 (G 213 x8) (x7 + x8) x6 G
theorem sl_Wo_quotient_278 (P W : Int) (x5 : Int) (x6 : Int) (x7 : Int) (x8 : Int) (G : St) : SS (MWo_quotient P W) some 278 [(0, aR 210), (5, aI x5), (6, aR x6), (7, aI x7), (8, aI x8)] [] G (Wo_quotient_l278 P W x5 x6 x7 x8 G) := by
  exact SS.loop (σ := Int × St) (fun s => [(0, aR 210), (5, aI x5), (6, aR x6), (7, aI x7), (8, aI (s.1))]) (fun s => s.2) (fun s => Wo_quotient_s278 P W x5 x6 x7 s.1 s.2) (fun X278 hX278 s => s_Wo_quotient_s278 P W x5 x6 x7  X278 hX278 s.1 s.2) (x8, G)
theorem s_Wo_quotient_s224 (P W : Int) (x1 : Int) (x2 : Int) (x3 : Int) (x4 : Int) (x5 : Int) (x6 : Int) (x7 : Int) (X35 : Int × St → Option (Int × St)) (hX35 : ∀ s, So (MWo_quotient P W) 35 [(0, aR 210), (1, aR x1), (2, aI x2), (3, aR x3), (4, aI x4), (5, aI x5), (6, aR x6), (7, aI x7), (8, aI (s.1))] [] s.2 (X35 s)) (x8 : Int) (x9 : Int) (X224 : Int × St → Option (Int × St)) (hX224 : ∀ s, So (MWo_quotient P W) 224 [(0, aR 210), (1, aR x1), (2, aI x2), (3, aR x3), (4, aI x4), (5, aI x5), (6, aR x6), (7, aI x7), (8, aI x8), (9, aI x9), (10, aI (s.1))] [] s.2 (X224 s)) (x10 : Int) (G : St) : SS (MWo_quotient P W) (lk X224 (lk X35 some)) 224 [(0, aR 210), (1, aR x1), (2, aI x2), (3, aR x3), (4, aI x4), (5, aI x5), (6, aR x6), (7, aI x7), (8, aI x8), (9, aI x9), (10, aI x10)] [] G (Wo_quotient_s224 P W x1 x2 x3 x4 x5 x6 x7 x8 x9 x10 G) := by
  refine r_iload 226 10 dX12_quotient_224 rfl rfl ?_
  refine r_aload_n 227 0 dX12_quotient_226 rfl rfl rfl ?_
  refine r_get 230 (aI W) dX12_quotient_227 fkX12_29 (fun _ => dsC_210 P W _) nn210 rfl rfl ?_
  refine r_icmp_ge 269 233 dX12_quotient_230 rfl rfl ?_ ?_
  · refine SS.ex ?_
    refine r_iinc 272 [(8, aI (x8 + (-1))), (0, aR 210), (1, aR x1), (2, aI x2), (3, aR x3), (4, aI x4), (5, aI x5), (6, aR x6), (7, aI x7), (9, aI x9), (10, aI x10)] 8 dX12_quotient_269 rfl rfl rfl rfl ?_
    refine r_goto 35 dX12_quotient_272 rfl ?_
    refine r_to [1, 2, 3, 4, 5, 6, 7, 8, 0] [(0, aR 210), (1, aR x1), (2, aI x2), (3, aR x3), (4, aI x4), (5, aI x5), (6, aR x6), (7, aI x7), (8, aI (x8 + (-1)))] rfl ?_
    exact SS.back (hX35 (x8 + (-1), G))
  · refine r_aload_n 234 0 dX12_quotient_233 rfl rfl rfl ?_
    refine r_get 237 (aR 213) dX12_quotient_234 fkX12_16 (fun _ => dsC_210 P W _) nn210 rfl rfl ?_
    refine r_iload 239 10 dX12_quotient_237 rfl rfl ?_
    refine r_aload_n 240 0 dX12_quotient_239 rfl rfl rfl ?_
    refine r_get 243 (aR 140) dX12_quotient_240 fkX12_25 (fun _ => dsC_210 P W _) nn210 rfl rfl ?_
    refine r_iload 245 9 dX12_quotient_243 rfl rfl ?_
    refine r_aload_n 246 0 dX12_quotient_245 rfl rfl rfl ?_
    refine r_get 249 (aR 212) dX12_quotient_246 fkX12_13 (fun _ => dsC_210 P W _) nn210 rfl rfl ?_
    refine r_iload 251 10 dX12_quotient_249 rfl rfl ?_
    refine r_iald 252 dX12_quotient_251 (fun _ _ _ => dsC_212 P W _) (fun _ _ => nn212) rfl ?_
    refine r_aload_n 253 0 dX12_quotient_252 rfl rfl rfl ?_
    refine r_get 256 (aR 214) dX12_quotient_253 fkX12_19 (fun _ => dsC_210 P W _) nn210 rfl rfl ?_
    refine r_iload 258 10 dX12_quotient_256 rfl rfl ?_
    refine r_iald 259 dX12_quotient_258 (fun _ _ _ => dsC_214 P W _) (fun _ _ => nn214) rfl ?_
    refine r_callvI 262 (Mc := MCi_mux P W) (o := 140) (as := [aI x9, aI (G 212 x10), aI (G 214 x10)]) (st := [aI x10, aR 213]) dX12_quotient_259 rfl (c_Ci_mux P W x9 (G 212 x10) (G 214 x10) G) lkX12_46 (cmCi_mux P W) rfl rfl rfl (fun _ => dsC_140 P W _) nn140 rfl (Nat.le_of_ble_eq_true rfl) (Nat.le_of_ble_eq_true rfl) (fun _ => rfl) rfl (fun z4 G5 => ?_)
    refine r_iast 263 dX12_quotient_262 (fun _ _ _ => dsC_213 P W _) (fun _ _ => nn213) rfl ?_
    refine ss_tk (fun G6 => ?_)
    refine r_iinc 266 [(10, aI (x10 + 1)), (0, aR 210), (1, aR x1), (2, aI x2), (3, aR x3), (4, aI x4), (5, aI x5), (6, aR x6), (7, aI x7), (8, aI x8), (9, aI x9)] 10 dX12_quotient_263 rfl rfl rfl rfl ?_
    refine r_goto 224 dX12_quotient_266 rfl ?_
    refine r_to [1, 2, 3, 4, 5, 6, 7, 8, 9, 10, 0] [(0, aR 210), (1, aR x1), (2, aI x2), (3, aR x3), (4, aI x4), (5, aI x5), (6, aR x6), (7, aI x7), (8, aI x8), (9, aI x9), (10, aI (x10 + 1))] rfl ?_
    exact SS.back (hX224 (x10 + 1, G6))
theorem sl_Wo_quotient_224 (P W : Int) (x1 : Int) (x2 : Int) (x3 : Int) (x4 : Int) (x5 : Int) (x6 : Int) (x7 : Int) (X35 : Int × St → Option (Int × St)) (hX35 : ∀ s, So (MWo_quotient P W) 35 [(0, aR 210), (1, aR x1), (2, aI x2), (3, aR x3), (4, aI x4), (5, aI x5), (6, aR x6), (7, aI x7), (8, aI (s.1))] [] s.2 (X35 s)) (x8 : Int) (x9 : Int) (x10 : Int) (G : St) : SS (MWo_quotient P W) (lk X35 some) 224 [(0, aR 210), (1, aR x1), (2, aI x2), (3, aR x3), (4, aI x4), (5, aI x5), (6, aR x6), (7, aI x7), (8, aI x8), (9, aI x9), (10, aI x10)] [] G (Wo_quotient_l224 P W x1 x2 x3 x4 x5 x6 x7 x8 x9 x10 G) := by
  exact SS.loop (σ := Int × St) (fun s => [(0, aR 210), (1, aR x1), (2, aI x2), (3, aR x3), (4, aI x4), (5, aI x5), (6, aR x6), (7, aI x7), (8, aI x8), (9, aI x9), (10, aI (s.1))]) (fun s => s.2) (fun s => Wo_quotient_s224 P W x1 x2 x3 x4 x5 x6 x7 x8 x9 s.1 s.2) (fun X224 hX224 s => s_Wo_quotient_s224 P W x1 x2 x3 x4 x5 x6 x7 X35 hX35 x8 x9  X224 hX224 s.1 s.2) (x10, G)
theorem s_Wo_quotient_b166 (P W : Int) (x1 : Int) (x2 : Int) (x3 : Int) (x4 : Int) (x5 : Int) (x6 : Int) (x7 : Int) (X35 : Int × St → Option (Int × St)) (hX35 : ∀ s, So (MWo_quotient P W) 35 [(0, aR 210), (1, aR x1), (2, aI x2), (3, aR x3), (4, aI x4), (5, aI x5), (6, aR x6), (7, aI x7), (8, aI (s.1))] [] s.2 (X35 s)) (x8 : Int) (X92 : Int × Int × St → Option (Int × St)) (hX92 : ∀ s, So (MWo_quotient P W) 92 [(0, aR 210), (1, aR x1), (2, aI x2), (3, aR x3), (4, aI x4), (5, aI x5), (6, aR x6), (7, aI x7), (8, aI x8), (9, aI (s.1)), (10, aI (s.2.1))] [] s.2.2 (X92 s)) (x9 : Int) (x10 : Int) (x11 : Int) (G : St) : SS (MWo_quotient P W) (lk X92 (lk X35 some)) 166 [(0, aR 210), (1, aR x1), (2, aI x2), (3, aR x3), (4, aI x4), (5, aI x5), (6, aR x6), (7, aI x7), (8, aI x8), (9, aI x9), (10, aI x10), (11, aI x11)] [] G (Wo_quotient_b166 P W x1 x2 x3 x4 x5 x6 x7 x8 x9 x10 x11 G) := by
  refine r_aload_n 167 0 dX12_quotient_166 rfl rfl rfl ?_
  refine r_get 170 (aR 140) dX12_quotient_167 fkX12_25 (fun _ => dsC_210 P W _) nn210 rfl rfl ?_
  refine r_aload_n 171 0 dX12_quotient_170 rfl rfl rfl ?_
  refine r_get 174 (aR 214) dX12_quotient_171 fkX12_19 (fun _ => dsC_210 P W _) nn210 rfl rfl ?_
  refine r_iload 176 10 dX12_quotient_174 rfl rfl ?_
  refine r_iald 177 dX12_quotient_176 (fun _ _ _ => dsC_214 P W _) (fun _ _ => nn214) rfl ?_
  refine r_iload 179 9 dX12_quotient_177 rfl rfl ?_
  refine r_callvI 182 (Mc := MCi_xor P W) (o := 140) (as := [aI (G 214 x10), aI x9]) (st := []) dX12_quotient_179 rfl (c_Ci_xor P W (G 214 x10) x9 G) lkX12_33 (cmCi_xor P W) rfl rfl rfl (fun _ => dsC_140 P W _) nn140 rfl (Nat.le_of_ble_eq_true rfl) (Nat.le_of_ble_eq_true rfl) (fun _ => rfl) rfl (fun z9 G10 => ?_)
  refine r_istore 184 [(12, aI z9), (0, aR 210), (1, aR x1), (2, aI x2), (3, aR x3), (4, aI x4), (5, aI x5), (6, aR x6), (7, aI x7), (8, aI x8), (9, aI x9), (10, aI x10), (11, aI x11)] dX12_quotient_182 rfl rfl rfl ?_
  refine r_aload_n 185 1 dX12_quotient_184 rfl rfl rfl ?_
  refine r_get 188 (aR 140) dX12_quotient_185 fkX12_25 (fun _ => dsC_210 P W _) nn210 rfl rfl ?_
  refine r_iload 190 10 dX12_quotient_188 rfl rfl ?_
  refine r_aload_n 191 1 dX12_quotient_190 rfl rfl rfl ?_
  refine r_get 194 (aR 140) dX12_quotient_191 fkX12_25 (fun _ => dsC_210 P W _) nn210 rfl rfl ?_
  refine r_iload 196 0 dX12_quotient_194 rfl rfl ?_
  refine r_iload 198 12 dX12_quotient_196 rfl rfl ?_
  refine r_callvI 201 (Mc := MCi_and P W) (o := 140) (as := [aI z9, aI x11]) (st := [aI x9, aR 140]) dX12_quotient_198 rfl (c_Ci_and P W z9 x11 G10) lkX12_39 (cmCi_and P W) rfl rfl rfl (fun _ => dsC_140 P W _) nn140 rfl (Nat.le_of_ble_eq_true rfl) (Nat.le_of_ble_eq_true rfl) (fun _ => rfl) rfl (fun z11 G12 => ?_)
  refine r_callvI 204 (Mc := MCi_xor P W) (o := 140) (as := [aI x9, aI z11]) (st := []) dX12_quotient_201 rfl (c_Ci_xor P W x9 z11 G12) lkX12_33 (cmCi_xor P W) rfl rfl rfl (fun _ => dsC_140 P W _) nn140 rfl (Nat.le_of_ble_eq_true rfl) (Nat.le_of_ble_eq_true rfl) (fun _ => rfl) rfl (fun z13 G14 => ?_)
  refine r_istore 206 [(9, aI z13), (12, aI z9), (0, aR 210), (1, aR x1), (2, aI x2), (3, aR x3), (4, aI x4), (5, aI x5), (6, aR x6), (7, aI x7), (8, aI x8), (10, aI x10), (11, aI x11)] dX12_quotient_204 rfl rfl rfl ?_
  refine r_iinc 209 [(10, aI (x10 + 1)), (9, aI z13), (12, aI z9), (0, aR 210), (1, aR x1), (2, aI x2), (3, aR x3), (4, aI x4), (5, aI x5), (6, aR x6), (7, aI x7), (8, aI x8), (11, aI x11)] 11 dX12_quotient_206 rfl rfl rfl rfl ?_
  refine r_goto 92 dX12_quotient_209 rfl ?_
  refine r_to [3, 4, 5, 6, 7, 8, 9, 10, 11, 1, 0] [(0, aR 210), (1, aR x1), (2, aI x2), (3, aR x3), (4, aI x4), (5, aI x5), (6, aR x6), (7, aI x7), (8, aI x8), (9, aI z13), (10, aI (x10 + 1))] rfl ?_
  exact SS.back (hX92 (z13, x10 + 1, G14))
theorem s_Wo_quotient_b127 (P W : Int) (x1 : Int) (x2 : Int) (x3 : Int) (x4 : Int) (x5 : Int) (x6 : Int) (x7 : Int) (X35 : Int × St → Option (Int × St)) (hX35 : ∀ s, So (MWo_quotient P W) 35 [(0, aR 210), (1, aR x1), (2, aI x2), (3, aR x3), (4, aI x4), (5, aI x5), (6, aR x6), (7, aI x7), (8, aI (s.1))] [] s.2 (X35 s)) (x8 : Int) (X92 : Int × Int × St → Option (Int × St)) (hX92 : ∀ s, So (MWo_quotient P W) 92 [(0, aR 210), (1, aR x1), (2, aI x2), (3, aR x3), (4, aI x4), (5, aI x5), (6, aR x6), (7, aI x7), (8, aI x8), (9, aI (s.1)), (10, aI (s.2.1))] [] s.2.2 (X92 s)) (x9 : Int) (x10 : Int) (s0 : Int) (G : St) : SS (MWo_quotient P W) (lk X92 (lk X35 some)) 127 [(0, aR 210), (1, aR x1), (2, aI x2), (3, aR x3), (4, aI x4), (5, aI x5), (6, aR x6), (7, aI x7), (8, aI x8), (9, aI x9), (10, aI x10)] [aI s0, aR 140] G (Wo_quotient_b127 P W x1 x2 x3 x4 x5 x6 x7 x8 x9 x10 s0 G) := by
  refine r_iload 129 9 dX12_quotient_127 rfl rfl ?_
  refine r_callvI 132 (Mc := MCi_xor P W) (o := 140) (as := [aI s0, aI x9]) (st := []) dX12_quotient_129 rfl (c_Ci_xor P W s0 x9 G) lkX12_33 (cmCi_xor P W) rfl rfl rfl (fun _ => dsC_140 P W _) nn140 rfl (Nat.le_of_ble_eq_true rfl) (Nat.le_of_ble_eq_true rfl) (fun _ => rfl) rfl (fun z7 G8 => ?_)
  refine r_istore 134 [(11, aI z7), (0, aR 210), (1, aR x1), (2, aI x2), (3, aR x3), (4, aI x4), (5, aI x5), (6, aR x6), (7, aI x7), (8, aI x8), (9, aI x9), (10, aI x10)] dX12_quotient_132 rfl rfl rfl ?_
  refine r_iload 136 11 dX12_quotient_134 rfl rfl ?_
  refine r_aload_n 137 1 dX12_quotient_136 rfl rfl rfl ?_
  refine r_get 140 (aI W) dX12_quotient_137 fkX12_29 (fun _ => dsC_210 P W _) nn210 rfl rfl ?_
  refine r_icmp_ge 166 143 dX12_quotient_140 rfl rfl ?_ ?_
  · refine r_to [1, 2, 3, 4, 5, 6, 7, 8, 9, 10, 11, 0] [(0, aR 210), (1, aR x1), (2, aI x2), (3, aR x3), (4, aI x4), (5, aI x5), (6, aR x6), (7, aI x7), (8, aI x8), (9, aI x9), (10, aI x10), (11, aI z7)] rfl ?_
    exact s_Wo_quotient_b166 P W x1 x2 x3 x4 x5 x6 x7 X35 hX35 x8 X92 hX92 x9 x10 z7 G8
  · refine r_aload_n 144 1 dX12_quotient_143 rfl rfl rfl ?_
    refine r_get 147 (aR 212) dX12_quotient_144 fkX12_13 (fun _ => dsC_210 P W _) nn210 rfl rfl ?_
    refine r_iload 149 11 dX12_quotient_147 rfl rfl ?_
    refine r_aload_n 150 1 dX12_quotient_149 rfl rfl rfl ?_
    refine r_get 153 (aR 140) dX12_quotient_150 fkX12_25 (fun _ => dsC_210 P W _) nn210 rfl rfl ?_
    refine r_aload_n 154 1 dX12_quotient_153 rfl rfl rfl ?_
    refine r_get 157 (aR 214) dX12_quotient_154 fkX12_19 (fun _ => dsC_210 P W _) nn210 rfl rfl ?_
    refine r_iload 159 11 dX12_quotient_157 rfl rfl ?_
    refine r_iald 160 dX12_quotient_159 (fun _ _ _ => dsC_214 P W _) (fun _ _ => nn214) rfl ?_
    refine r_iload 162 0 dX12_quotient_160 rfl rfl ?_
    refine r_callvI 165 (Mc := MCi_xor P W) (o := 140) (as := [aI (G8 214 x10), aI z7]) (st := [aI x10, aR 212]) dX12_quotient_162 rfl (c_Ci_xor P W (G8 214 x10) z7 G8) lkX12_33 (cmCi_xor P W) rfl rfl rfl (fun _ => dsC_140 P W _) nn140 rfl (Nat.le_of_ble_eq_true rfl) (Nat.le_of_ble_eq_true rfl) (fun _ => rfl) rfl (fun z15 G16 => ?_)
    refine r_iast 166 dX12_quotient_165 (fun _ _ _ => dsC_212 P W _) (fun _ _ => nn212) rfl ?_
    refine ss_tk (fun G17 => ?_)
    refine r_to [1, 2, 3, 4, 5, 6, 7, 8, 9, 10, 11, 0] [(0, aR 210), (1, aR x1), (2, aI x2), (3, aR x3), (4, aI x4), (5, aI x5), (6, aR x6), (7, aI x7), (8, aI x8), (9, aI x9), (10, aI x10), (11, aI z7)] rfl ?_
    exact s_Wo_quotient_b166 P W x1 x2 x3 x4 x5 x6 x7 X35 hX35 x8 X92 hX92 x9 x10 z7 G17
theorem s_Wo_quotient_s92 (P W : Int) (x1 : Int) (x2 : Int) (x3 : Int) (x4 : Int) (x5 : Int) (x6 : Int) (x7 : Int) (X35 : Int × St → Option (Int × St)) (hX35 : ∀ s, So (MWo_quotient P W) 35 [(0, aR 210), (1, aR x1), (2, aI x2), (3, aR x3), (4, aI x4), (5, aI x5), (6, aR x6), (7, aI x7), (8, aI (s.1))] [] s.2 (X35 s)) (x8 : Int) (X92 : Int × Int × St → Option (Int × St)) (hX92 : ∀ s, So (MWo_quotient P W) 92 [(0, aR 210), (1, aR x1), (2, aI x2), (3, aR x3), (4, aI x4), (5, aI x5), (6, aR x6), (7, aI x7), (8, aI x8), (9, aI (s.1)), (10, aI (s.2.1))] [] s.2.2 (X92 s)) (x9 : Int) (x10 : Int) (G : St) : SS (MWo_quotient P W) (lk X92 (lk X35 some)) 92 [(0, aR 210), (1, aR x1), (2, aI x2), (3, aR x3), (4, aI x4), (5, aI x5), (6, aR x6), (7, aI x7), (8, aI x8), (9, aI x9), (10, aI x10)] [] G (Wo_quotient_s92 P W x1 x2 x3 x4 x5 x6 x7 x8 x9 x10 G) := by
  refine r_iload 94 10 dX12_quotient_92 rfl rfl ?_
  refine r_aload_n 95 0 dX12_quotient_94 rfl rfl rfl ?_
  refine r_get 98 (aI W) dX12_quotient_95 fkX12_29 (fun _ => dsC_210 P W _) nn210 rfl rfl ?_
  refine r_icmp_gt 212 101 dX12_quotient_98 rfl rfl ?_ ?_
  · refine SS.ex ?_
    refine r_aload_n 213 0 dX12_quotient_212 rfl rfl rfl ?_
    refine r_get 216 (aR 211) dX12_quotient_213 fkX12_7 (fun _ => dsC_210 P W _) nn210 rfl rfl ?_
    refine r_iload 218 8 dX12_quotient_216 rfl rfl ?_
    refine r_iload 220 9 dX12_quotient_218 rfl rfl ?_
    refine r_iast 221 dX12_quotient_220 (fun _ _ _ => dsC_211 P W _) (fun _ _ => nn211) rfl ?_
    refine ss_tk (fun G3 => ?_)
    refine r_iconst 222 0 dX12_quotient_221 rfl rfl ?_
    refine r_istore 224 [(10, aI 0), (0, aR 210), (1, aR x1), (2, aI x2), (3, aR x3), (4, aI x4), (5, aI x5), (6, aR x6), (7, aI x7), (8, aI x8), (9, aI x9)] dX12_quotient_222 rfl rfl rfl ?_
    refine r_to [1, 2, 3, 4, 5, 6, 7, 8, 9, 10, 0] [(0, aR 210), (1, aR x1), (2, aI x2), (3, aR x3), (4, aI x4), (5, aI x5), (6, aR x6), (7, aI x7), (8, aI x8), (9, aI x9), (10, aI 0)] rfl ?_
    exact sl_Wo_quotient_224 P W x1 x2 x3 x4 x5 x6 x7 X35 hX35 x8 x9 0 G3
  · refine r_aload_n 102 0 dX12_quotient_101 rfl rfl rfl ?_
    refine r_get 105 (aR 140) dX12_quotient_102 fkX12_25 (fun _ => dsC_210 P W _) nn210 rfl rfl ?_
    refine r_iload 107 10 dX12_quotient_105 rfl rfl ?_
    refine r_aload_n 108 0 dX12_quotient_107 rfl rfl rfl ?_
    refine r_get 111 (aI W) dX12_quotient_108 fkX12_29 (fun _ => dsC_210 P W _) nn210 rfl rfl ?_
    refine r_icmp_ge 126 114 dX12_quotient_111 rfl rfl ?_ ?_
    · refine r_iconst 127 (-1) dX12_quotient_126 rfl rfl ?_
      exact s_Wo_quotient_b127 P W x1 x2 x3 x4 x5 x6 x7 X35 hX35 x8 X92 hX92 x9 x10 (-1) G
    · refine r_aload_n 115 3 dX12_quotient_114 rfl rfl rfl ?_
      refine r_iload 117 4 dX12_quotient_115 rfl rfl ?_
      refine r_iload 119 10 dX12_quotient_117 rfl rfl ?_
      refine r_iadd 120 dX12_quotient_119 rfl ?_
      refine r_iald 121 dX12_quotient_120 (fun h h0 h1 => ialC_c P W h (Int.lt_of_le_of_lt h0 h1)) (fun h0 h1 => ialC_n P W (Int.lt_of_le_of_lt h0 h1)) rfl ?_
      refine r_iconst 122 1 dX12_quotient_121 rfl rfl ?_
      refine r_ixor 123 dX12_quotient_122 rfl ?_
      refine r_goto 127 dX12_quotient_123 rfl ?_
      exact s_Wo_quotient_b127 P W x1 x2 x3 x4 x5 x6 x7 X35 hX35 x8 X92 hX92 x9 x10 (j_xo (G x3 (x4 + x10)) 1) G
theorem sl_Wo_quotient_92 (P W : Int) (x1 : Int) (x2 : Int) (x3 : Int) (x4 : Int) (x5 : Int) (x6 : Int) (x7 : Int) (X35 : Int × St → Option (Int × St)) (hX35 : ∀ s, So (MWo_quotient P W) 35 [(0, aR 210), (1, aR x1), (2, aI x2), (3, aR x3), (4, aI x4), (5, aI x5), (6, aR x6), (7, aI x7), (8, aI (s.1))] [] s.2 (X35 s)) (x8 : Int) (x9 : Int) (x10 : Int) (G : St) : SS (MWo_quotient P W) (lk X35 some) 92 [(0, aR 210), (1, aR x1), (2, aI x2), (3, aR x3), (4, aI x4), (5, aI x5), (6, aR x6), (7, aI x7), (8, aI x8), (9, aI x9), (10, aI x10)] [] G (Wo_quotient_l92 P W x1 x2 x3 x4 x5 x6 x7 x8 x9 x10 G) := by
  exact SS.loop (σ := Int × Int × St) (fun s => [(0, aR 210), (1, aR x1), (2, aI x2), (3, aR x3), (4, aI x4), (5, aI x5), (6, aR x6), (7, aI x7), (8, aI x8), (9, aI (s.1)), (10, aI (s.2.1))]) (fun s => s.2.2) (fun s => Wo_quotient_s92 P W x1 x2 x3 x4 x5 x6 x7 x8 s.1 s.2.1 s.2.2) (fun X92 hX92 s => s_Wo_quotient_s92 P W x1 x2 x3 x4 x5 x6 x7 X35 hX35 x8  X92 hX92 s.1 s.2.1 s.2.2) (x9, x10, G)
theorem s_Wo_quotient_s55 (P W : Int) (x1 : Int) (x2 : Int) (x3 : Int) (x4 : Int) (x5 : Int) (x6 : Int) (x7 : Int) (X35 : Int × St → Option (Int × St)) (hX35 : ∀ s, So (MWo_quotient P W) 35 [(0, aR 210), (1, aR x1), (2, aI x2), (3, aR x3), (4, aI x4), (5, aI x5), (6, aR x6), (7, aI x7), (8, aI (s.1))] [] s.2 (X35 s)) (x8 : Int) (X55 : Int × St → Option (Int × St)) (hX55 : ∀ s, So (MWo_quotient P W) 55 [(0, aR 210), (1, aR x1), (2, aI x2), (3, aR x3), (4, aI x4), (5, aI x5), (6, aR x6), (7, aI x7), (8, aI x8), (9, aI (s.1))] [] s.2 (X55 s)) (x9 : Int) (G : St) : SS (MWo_quotient P W) (lk X55 (lk X35 some)) 55 [(0, aR 210), (1, aR x1), (2, aI x2), (3, aR x3), (4, aI x4), (5, aI x5), (6, aR x6), (7, aI x7), (8, aI x8), (9, aI x9)] [] G (Wo_quotient_s55 P W x1 x2 x3 x4 x5 x6 x7 x8 x9 G) := by
  refine r_iload 57 9 dX12_quotient_55 rfl rfl ?_
  refine r_aload_n 58 0 dX12_quotient_57 rfl rfl rfl ?_
  refine r_get 61 (aI W) dX12_quotient_58 fkX12_29 (fun _ => dsC_210 P W _) nn210 rfl rfl ?_
  refine r_icmp_ge 86 64 dX12_quotient_61 rfl rfl ?_ ?_
  · refine SS.ex ?_
    refine r_iconst 87 (-1) dX12_quotient_86 rfl rfl ?_
    refine r_istore 89 [(9, aI (-1)), (0, aR 210), (1, aR x1), (2, aI x2), (3, aR x3), (4, aI x4), (5, aI x5), (6, aR x6), (7, aI x7), (8, aI x8)] dX12_quotient_87 rfl rfl rfl ?_
    refine r_iconst 90 0 dX12_quotient_89 rfl rfl ?_
    refine r_istore 92 [(10, aI 0), (9, aI (-1)), (0, aR 210), (1, aR x1), (2, aI x2), (3, aR x3), (4, aI x4), (5, aI x5), (6, aR x6), (7, aI x7), (8, aI x8)] dX12_quotient_90 rfl rfl rfl ?_
    refine r_to [2, 3, 4, 5, 6, 7, 8, 9, 10, 1, 0] [(0, aR 210), (1, aR x1), (2, aI x2), (3, aR x3), (4, aI x4), (5, aI x5), (6, aR x6), (7, aI x7), (8, aI x8), (9, aI (-1)), (10, aI 0)] rfl ?_
    exact sl_Wo_quotient_92 P W x1 x2 x3 x4 x5 x6 x7 X35 hX35 x8 (-1) 0 G
  · refine r_aload_n 65 0 dX12_quotient_64 rfl rfl rfl ?_
    refine r_get 68 (aR 214) dX12_quotient_65 fkX12_19 (fun _ => dsC_210 P W _) nn210 rfl rfl ?_
    refine r_iload 70 9 dX12_quotient_68 rfl rfl ?_
    refine r_iconst 71 1 dX12_quotient_70 rfl rfl ?_
    refine r_iadd 72 dX12_quotient_71 rfl ?_
    refine r_aload_n 73 0 dX12_quotient_72 rfl rfl rfl ?_
    refine r_get 76 (aR 213) dX12_quotient_73 fkX12_16 (fun _ => dsC_210 P W _) nn210 rfl rfl ?_
    refine r_iload 78 9 dX12_quotient_76 rfl rfl ?_
    refine r_iald 79 dX12_quotient_78 (fun _ _ _ => dsC_213 P W _) (fun _ _ => nn213) rfl ?_
    refine r_iast 80 dX12_quotient_79 (fun _ _ _ => dsC_214 P W _) (fun _ _ => nn214) rfl ?_
    refine ss_tk (fun G18 => ?_)
    refine r_iinc 83 [(9, aI (x9 + 1)), (0, aR 210), (1, aR x1), (2, aI x2), (3, aR x3), (4, aI x4), (5, aI x5), (6, aR x6), (7, aI x7), (8, aI x8)] 9 dX12_quotient_80 rfl rfl rfl rfl ?_
    refine r_goto 55 dX12_quotient_83 rfl ?_
    refine r_to [1, 2, 3, 4, 5, 6, 7, 8, 9, 0] [(0, aR 210), (1, aR x1), (2, aI x2), (3, aR x3), (4, aI x4), (5, aI x5), (6, aR x6), (7, aI x7), (8, aI x8), (9, aI (x9 + 1))] rfl ?_
    exact SS.back (hX55 (x9 + 1, G18))
theorem sl_Wo_quotient_55 (P W : Int) (x1 : Int) (x2 : Int) (x3 : Int) (x4 : Int) (x5 : Int) (x6 : Int) (x7 : Int) (X35 : Int × St → Option (Int × St)) (hX35 : ∀ s, So (MWo_quotient P W) 35 [(0, aR 210), (1, aR x1), (2, aI x2), (3, aR x3), (4, aI x4), (5, aI x5), (6, aR x6), (7, aI x7), (8, aI (s.1))] [] s.2 (X35 s)) (x8 : Int) (x9 : Int) (G : St) : SS (MWo_quotient P W) (lk X35 some) 55 [(0, aR 210), (1, aR x1), (2, aI x2), (3, aR x3), (4, aI x4), (5, aI x5), (6, aR x6), (7, aI x7), (8, aI x8), (9, aI x9)] [] G (Wo_quotient_l55 P W x1 x2 x3 x4 x5 x6 x7 x8 x9 G) := by
  exact SS.loop (σ := Int × St) (fun s => [(0, aR 210), (1, aR x1), (2, aI x2), (3, aR x3), (4, aI x4), (5, aI x5), (6, aR x6), (7, aI x7), (8, aI x8), (9, aI (s.1))]) (fun s => s.2) (fun s => Wo_quotient_s55 P W x1 x2 x3 x4 x5 x6 x7 x8 s.1 s.2) (fun X55 hX55 s => s_Wo_quotient_s55 P W x1 x2 x3 x4 x5 x6 x7 X35 hX35 x8  X55 hX55 s.1 s.2) (x9, G)
theorem s_Wo_quotient_s35 (P W : Int) (x1 : Int) (x2 : Int) (x3 : Int) (x4 : Int) (x5 : Int) (x6 : Int) (x7 : Int) (X35 : Int × St → Option (Int × St)) (hX35 : ∀ s, So (MWo_quotient P W) 35 [(0, aR 210), (1, aR x1), (2, aI x2), (3, aR x3), (4, aI x4), (5, aI x5), (6, aR x6), (7, aI x7), (8, aI (s.1))] [] s.2 (X35 s)) (x8 : Int) (G : St) : SS (MWo_quotient P W) (lk X35 some) 35 [(0, aR 210), (1, aR x1), (2, aI x2), (3, aR x3), (4, aI x4), (5, aI x5), (6, aR x6), (7, aI x7), (8, aI x8)] [] G (Wo_quotient_s35 P W x1 x2 x3 x4 x5 x6 x7 x8 G) := by
  refine r_iload 37 8 dX12_quotient_35 rfl rfl ?_
  refine r_if_lt 275 40 dX12_quotient_37 rfl rfl ?_ ?_
  · refine SS.ex ?_
    refine r_iconst 276 0 dX12_quotient_275 rfl rfl ?_
    refine r_istore 278 [(8, aI 0), (0, aR 210), (1, aR x1), (2, aI x2), (3, aR x3), (4, aI x4), (5, aI x5), (6, aR x6), (7, aI x7)] dX12_quotient_276 rfl rfl rfl ?_
    refine r_to [1, 6, 7, 8, 0] [(0, aR 210), (5, aI x5), (6, aR x6), (7, aI x7), (8, aI 0)] rfl ?_
    exact sl_Wo_quotient_278 P W x5 x6 x7 0 G
  · refine r_aload_n 41 0 dX12_quotient_40 rfl rfl rfl ?_
    refine r_get 44 (aR 214) dX12_quotient_41 fkX12_19 (fun _ => dsC_210 P W _) nn210 rfl rfl ?_
    refine r_iconst 45 0 dX12_quotient_44 rfl rfl ?_
    refine r_aload_n 46 1 dX12_quotient_45 rfl rfl rfl ?_
    refine r_iload_n 47 2 dX12_quotient_46 rfl rfl rfl ?_
    refine r_iload 49 8 dX12_quotient_47 rfl rfl ?_
    refine r_iadd 50 dX12_quotient_49 rfl ?_
    refine r_iald 51 dX12_quotient_50 (fun h h0 h1 => ialC_c P W h (Int.lt_of_le_of_lt h0 h1)) (fun h0 h1 => ialC_n P W (Int.lt_of_le_of_lt h0 h1)) rfl ?_
    refine r_iast 52 dX12_quotient_51 (fun _ _ _ => dsC_214 P W _) (fun _ _ => nn214) rfl ?_
    refine ss_tk (fun G2 => ?_)
    refine r_iconst 53 0 dX12_quotient_52 rfl rfl ?_
    refine r_istore 55 [(9, aI 0), (0, aR 210), (1, aR x1), (2, aI x2), (3, aR x3), (4, aI x4), (5, aI x5), (6, aR x6), (7, aI x7), (8, aI x8)] dX12_quotient_53 rfl rfl rfl ?_
    refine r_to [1, 2, 3, 4, 5, 6, 7, 8, 9, 0] [(0, aR 210), (1, aR x1), (2, aI x2), (3, aR x3), (4, aI x4), (5, aI x5), (6, aR x6), (7, aI x7), (8, aI x8), (9, aI 0)] rfl ?_
    exact sl_Wo_quotient_55 P W x1 x2 x3 x4 x5 x6 x7 X35 hX35 x8 0 G2
theorem sl_Wo_quotient_35 (P W : Int) (x1 : Int) (x2 : Int) (x3 : Int) (x4 : Int) (x5 : Int) (x6 : Int) (x7 : Int) (x8 : Int) (G : St) : SS (MWo_quotient P W) some 35 [(0, aR 210), (1, aR x1), (2, aI x2), (3, aR x3), (4, aI x4), (5, aI x5), (6, aR x6), (7, aI x7), (8, aI x8)] [] G (Wo_quotient_l35 P W x1 x2 x3 x4 x5 x6 x7 x8 G) := by
  exact SS.loop (σ := Int × St) (fun s => [(0, aR 210), (1, aR x1), (2, aI x2), (3, aR x3), (4, aI x4), (5, aI x5), (6, aR x6), (7, aI x7), (8, aI (s.1))]) (fun s => s.2) (fun s => Wo_quotient_s35 P W x1 x2 x3 x4 x5 x6 x7 s.1 s.2) (fun X35 hX35 s => s_Wo_quotient_s35 P W x1 x2 x3 x4 x5 x6 x7  X35 hX35 s.1 s.2) (x8, G)
theorem s_Wo_quotient_s3 (P W : Int) (x1 : Int) (x2 : Int) (x3 : Int) (x4 : Int) (x5 : Int) (x6 : Int) (x7 : Int) (X3 : Int × St → Option (Int × St)) (hX3 : ∀ s, So (MWo_quotient P W) 3 [(0, aR 210), (1, aR x1), (2, aI x2), (3, aR x3), (4, aI x4), (5, aI x5), (6, aR x6), (7, aI x7), (8, aI (s.1))] [] s.2 (X3 s)) (x8 : Int) (G : St) : SS (MWo_quotient P W) (lk X3 some) 3 [(0, aR 210), (1, aR x1), (2, aI x2), (3, aR x3), (4, aI x4), (5, aI x5), (6, aR x6), (7, aI x7), (8, aI x8)] [] G (Wo_quotient_s3 P W x1 x2 x3 x4 x5 x6 x7 x8 G) := by
  refine r_iload 5 8 dX12_quotient_3 rfl rfl ?_
  refine r_aload_n 6 0 dX12_quotient_5 rfl rfl rfl ?_
  refine r_get 9 (aI W) dX12_quotient_6 fkX12_29 (fun _ => dsC_210 P W _) nn210 rfl rfl ?_
  refine r_icmp_ge 27 12 dX12_quotient_9 rfl rfl ?_ ?_
  · refine SS.ex ?_
    refine r_aload_n 28 0 dX12_quotient_27 rfl rfl rfl ?_
    refine r_get 31 (aI W) dX12_quotient_28 fkX12_29 (fun _ => dsC_210 P W _) nn210 rfl rfl ?_
    refine r_iconst 32 1 dX12_quotient_31 rfl rfl ?_
    refine r_isub 33 dX12_quotient_32 rfl ?_
    refine r_istore 35 [(8, aI (W - 1)), (0, aR 210), (1, aR x1), (2, aI x2), (3, aR x3), (4, aI x4), (5, aI x5), (6, aR x6), (7, aI x7)] dX12_quotient_33 rfl rfl rfl ?_
    refine r_to [1, 2, 3, 4, 5, 6, 7, 8, 0] [(0, aR 210), (1, aR x1), (2, aI x2), (3, aR x3), (4, aI x4), (5, aI x5), (6, aR x6), (7, aI x7), (8, aI (W - 1))] rfl ?_
    exact sl_Wo_quotient_35 P W x1 x2 x3 x4 x5 x6 x7 (W - 1) G
  · refine r_aload_n 13 0 dX12_quotient_12 rfl rfl rfl ?_
    refine r_get 16 (aR 213) dX12_quotient_13 fkX12_16 (fun _ => dsC_210 P W _) nn210 rfl rfl ?_
    refine r_iload 18 8 dX12_quotient_16 rfl rfl ?_
    refine r_bipush 20 (-2) dX12_quotient_18 rfl rfl ?_
    refine r_iast 21 dX12_quotient_20 (fun _ _ _ => dsC_213 P W _) (fun _ _ => nn213) rfl ?_
    refine ss_tk (fun G19 => ?_)
    refine r_iinc 24 [(8, aI (x8 + 1)), (0, aR 210), (1, aR x1), (2, aI x2), (3, aR x3), (4, aI x4), (5, aI x5), (6, aR x6), (7, aI x7)] 8 dX12_quotient_21 rfl rfl rfl rfl ?_
    refine r_goto 3 dX12_quotient_24 rfl ?_
    refine r_to [1, 2, 3, 4, 5, 6, 7, 8, 0] [(0, aR 210), (1, aR x1), (2, aI x2), (3, aR x3), (4, aI x4), (5, aI x5), (6, aR x6), (7, aI x7), (8, aI (x8 + 1))] rfl ?_
    exact SS.back (hX3 (x8 + 1, G19))
theorem sl_Wo_quotient_3 (P W : Int) (x1 : Int) (x2 : Int) (x3 : Int) (x4 : Int) (x5 : Int) (x6 : Int) (x7 : Int) (x8 : Int) (G : St) : SS (MWo_quotient P W) some 3 [(0, aR 210), (1, aR x1), (2, aI x2), (3, aR x3), (4, aI x4), (5, aI x5), (6, aR x6), (7, aI x7), (8, aI x8)] [] G (Wo_quotient_l3 P W x1 x2 x3 x4 x5 x6 x7 x8 G) := by
  exact SS.loop (σ := Int × St) (fun s => [(0, aR 210), (1, aR x1), (2, aI x2), (3, aR x3), (4, aI x4), (5, aI x5), (6, aR x6), (7, aI x7), (8, aI (s.1))]) (fun s => s.2) (fun s => Wo_quotient_s3 P W x1 x2 x3 x4 x5 x6 x7 s.1 s.2) (fun X3 hX3 s => s_Wo_quotient_s3 P W x1 x2 x3 x4 x5 x6 x7  X3 hX3 s.1 s.2) (x8, G)
theorem s_Wo_quotient (P W : Int) (x1 : Int) (x2 : Int) (x3 : Int) (x4 : Int) (x5 : Int) (x6 : Int) (x7 : Int) (G : St) : SS (MWo_quotient P W) some 0 [(0, aR 210), (1, aR x1), (2, aI x2), (3, aR x3), (4, aI x4), (5, aI x5), (6, aR x6), (7, aI x7)] [] G (Wo_quotient P W x1 x2 x3 x4 x5 x6 x7 G) := by
  refine r_iconst 1 0 dX12_quotient_0 rfl rfl ?_
  refine r_istore 3 [(8, aI 0), (0, aR 210), (1, aR x1), (2, aI x2), (3, aR x3), (4, aI x4), (5, aI x5), (6, aR x6), (7, aI x7)] dX12_quotient_1 rfl rfl rfl ?_
  refine r_to [1, 2, 3, 4, 5, 6, 7, 8, 0] [(0, aR 210), (1, aR x1), (2, aI x2), (3, aR x3), (4, aI x4), (5, aI x5), (6, aR x6), (7, aI x7), (8, aI 0)] rfl ?_
  exact sl_Wo_quotient_3 P W x1 x2 x3 x4 x5 x6 x7 0 G
theorem c_Wo_quotient (P W : Int) (x1 : Int) (x2 : Int) (x3 : Int) (x4 : Int) (x5 : Int) (x6 : Int) (x7 : Int) (G : St) : MG (MWo_quotient P W) [aR 210, aR x1, aI x2, aR x3, aI x4, aI x5, aR x6, aI x7] G (Wo_quotient P W x1 x2 x3 x4 x5 x6 x7 G) := MG.of plX12 (Nat.le_of_ble_eq_true rfl) (s_Wo_quotient P W x1 x2 x3 x4 x5 x6 x7 G)
theorem s_Bd_operator_b419 (P W : Int) (x1 : Int) (x2 : Int) (G : St) : SS (MBd_operator P W) some 419 [(0, aR 180), (1, aI x1), (2, aI x2)] [] G (Bd_operator_b419 P W x1 x2 G) := by
  refine r_aload_n 420 0 dX11_operator_419 rfl rfl rfl ?_
  refine r_iload_n 421 1 dX11_operator_420 rfl rfl rfl ?_
  refine r_iload_n 422 2 dX11_operator_421 rfl rfl rfl ?_
  refine r_callvV 425 (Mc := MBd_shift P W) (o := 180) (as := [aI x1, aI x2]) (st := []) dX11_operator_422 rfl (c_Bd_shift P W x1 x2 G) lkX11_324 (cmBd_shift P W) rfl rfl rfl (fun _ => dsC_180 P W _) nn180 rfl (Nat.le_of_ble_eq_true rfl) (Nat.le_of_ble_eq_true rfl) (fun _ => rfl) rfl (fun z5 G6 => ?_)
  refine r_goto 438 dX11_operator_425 rfl ?_
  exact r_return dX11_operator_438 rfl
theorem s_Bd_operator_b307 (P W : Int) (s0 : Int) (s1 : Int) (s2 : Int) (s4 : Int) (G : St) : SS (MBd_operator P W) some 307 [(0, aR 180)] [aI s0, aI s1, aI s2, aR 181, aI s4, aR 181, aR 210] G (Bd_operator_b307 P W s0 s1 s2 s4 G) := by
  refine r_aload_n 308 0 dX11_operator_307 rfl rfl rfl ?_
  refine r_get 311 (aI W) dX11_operator_308 fkX11_60 (fun _ => dsC_180 P W _) nn180 rfl rfl ?_
  refine r_aload_n 312 0 dX11_operator_311 rfl rfl rfl ?_
  refine r_get 315 (aR 207) dX11_operator_312 fkX11_100 (fun _ => dsC_180 P W _) nn180 rfl rfl ?_
  refine r_iconst 316 0 dX11_operator_315 rfl rfl ?_
  refine r_callvV 319 (Mc := MWo_sum P W) (o := 210) (as := [aR 181, aI s4, aR 181, aI s2, aI s1, aI s0, aI W, aR 207, aI 0]) (st := []) dX11_operator_316 rfl (c_Wo_sum P W 181 s4 181 s2 s1 s0 W 207 0 G) lkX11_306 (cmWo_sum P W) rfl rfl rfl (fun _ => dsC_210 P W _) nn210 rfl (Nat.le_of_ble_eq_true rfl) (Nat.le_of_ble_eq_true rfl) (fun _ => rfl) rfl (fun z7 G8 => ?_)
  refine r_aload_n 320 0 dX11_operator_319 rfl rfl rfl ?_
  refine r_iconst 321 2 dX11_operator_320 rfl rfl ?_
  refine r_aload_n 322 0 dX11_operator_321 rfl rfl rfl ?_
  refine r_get 325 (aI W) dX11_operator_322 fkX11_60 (fun _ => dsC_180 P W _) nn180 rfl rfl ?_
  refine r_callvV 328 (Mc := MBd_settle P W) (o := 180) (as := [aI 2, aI W]) (st := []) dX11_operator_325 rfl (c_Bd_settle P W 2 W G8) lkX11_303 (cmBd_settle P W) rfl rfl rfl (fun _ => dsC_180 P W _) nn180 rfl (Nat.le_of_ble_eq_true rfl) (Nat.le_of_ble_eq_true rfl) (fun _ => rfl) rfl (fun z9 G10 => ?_)
  refine r_goto 438 dX11_operator_328 rfl ?_
  exact r_return dX11_operator_438 rfl
theorem s_Bd_operator_b278 (P W : Int) (x2 : Int) (x3 : Int) (s0 : Int) (G : St) : SS (MBd_operator P W) some 278 [(0, aR 180), (2, aI x2), (3, aI x3)] [aI s0] G (Bd_operator_b278 P W x2 x3 s0 G) := by
  refine r_istore 280 [(5, aI s0), (0, aR 180), (2, aI x2), (3, aI x3)] dX11_operator_278 rfl rfl rfl ?_
  refine r_aload_n 281 1 dX11_operator_280 rfl rfl rfl ?_
  refine r_get 284 (aR 210) dX11_operator_281 fkX11_81 (fun _ => dsC_180 P W _) nn180 rfl rfl ?_
  refine r_aload_n 285 1 dX11_operator_284 rfl rfl rfl ?_
  refine r_get 288 (aR 181) dX11_operator_285 fkX11_85 (fun _ => dsC_180 P W _) nn180 rfl rfl ?_
  refine r_iload_n 289 2 dX11_operator_288 rfl rfl rfl ?_
  refine r_aload_n 290 1 dX11_operator_289 rfl rfl rfl ?_
  refine r_get 293 (aR 181) dX11_operator_290 fkX11_85 (fun _ => dsC_180 P W _) nn180 rfl rfl ?_
  refine r_iload_n 294 3 dX11_operator_293 rfl rfl rfl ?_
  refine r_iload 296 0 dX11_operator_294 rfl rfl ?_
  refine r_iload 298 0 dX11_operator_296 rfl rfl ?_
  refine SS.phi (fun VV_ => Bd_operator_b307 P W VV_ s0 x3 x2 G) ?_
  refine r_if_eq 305 301 dX11_operator_298 rfl rfl ?_ ?_
  · refine r_bipush 307 (-2) dX11_operator_305 rfl rfl ?_
    refine r_to [1] [(0, aR 180)] rfl ?_
    exact s_Bd_operator_b307 P W (-2) s0 x3 x2 G
  · refine r_iconst 302 (-1) dX11_operator_301 rfl rfl ?_
    refine r_goto 307 dX11_operator_302 rfl ?_
    refine r_to [1] [(0, aR 180)] rfl ?_
    exact s_Bd_operator_b307 P W (-1) s0 x3 x2 G
theorem s_Bd_operator_b258 (P W : Int) (x1 : Int) (x2 : Int) (x3 : Int) (G : St) : SS (MBd_operator P W) some 258 [(0, aR 180), (1, aI x1), (2, aI x2), (3, aI x3)] [] G (Bd_operator_b258 P W x1 x2 x3 G) := by
  refine r_aload_n 259 0 dX11_operator_258 rfl rfl rfl ?_
  refine r_get 262 (aR 110) dX11_operator_259 fkX11_64 (fun _ => dsC_180 P W _) nn180 rfl rfl ?_
  refine r_get 265 (aR 111) dX11_operator_262 fkX11_172 (fun _ => dsC_110 P W _) nn110 rfl rfl ?_
  refine r_iload_n 266 1 dX11_operator_265 rfl rfl rfl ?_
  refine r_aald5 267 dX11_operator_266 (fun _ _ _ => dsC_111 P W _) (fun _ _ => nn111) rfl ?_
  refine r_gets 270 52 dX11_operator_267 q1486 rfl rfl ?_
  refine r_acmp_ne 277 273 dX11_operator_270 rfl rfl ?_ ?_
  · refine r_iconst 278 0 dX11_operator_277 rfl rfl ?_
    refine r_to [0, 2, 3] [(0, aR 180), (2, aI x2), (3, aI x3)] rfl ?_
    exact s_Bd_operator_b278 P W x2 x3 0 G
  · refine r_iconst 274 1 dX11_operator_273 rfl rfl ?_
    refine r_goto 278 dX11_operator_274 rfl ?_
    refine r_to [0, 2, 3] [(0, aR 180), (2, aI x2), (3, aI x3)] rfl ?_
    exact s_Bd_operator_b278 P W x2 x3 1 G
theorem s_Bd_operator_b331 (P W : Int) (x2 : Int) (x3 : Int) (G : St) : SS (MBd_operator P W) some 331 [(0, aR 180), (2, aI x2), (3, aI x3)] [] G (Bd_operator_b331 P W x2 x3 G) := by
  refine r_aload_n 332 0 dX11_operator_331 rfl rfl rfl ?_
  refine r_get 335 (aR 210) dX11_operator_332 fkX11_81 (fun _ => dsC_180 P W _) nn180 rfl rfl ?_
  refine r_aload_n 336 0 dX11_operator_335 rfl rfl rfl ?_
  refine r_get 339 (aR 181) dX11_operator_336 fkX11_85 (fun _ => dsC_180 P W _) nn180 rfl rfl ?_
  refine r_iload_n 340 1 dX11_operator_339 rfl rfl rfl ?_
  refine r_aload_n 341 0 dX11_operator_340 rfl rfl rfl ?_
  refine r_get 344 (aR 181) dX11_operator_341 fkX11_85 (fun _ => dsC_180 P W _) nn180 rfl rfl ?_
  refine r_iload_n 345 2 dX11_operator_344 rfl rfl rfl ?_
  refine r_aload_n 346 0 dX11_operator_345 rfl rfl rfl ?_
  refine r_get 349 (aR 207) dX11_operator_346 fkX11_100 (fun _ => dsC_180 P W _) nn180 rfl rfl ?_
  refine r_iconst 350 0 dX11_operator_349 rfl rfl ?_
  refine r_callvV 353 (Mc := MWo_product P W) (o := 210) (as := [aR 181, aI x2, aR 181, aI x3, aR 207, aI 0]) (st := []) dX11_operator_350 rfl (c_Wo_product P W 181 x2 181 x3 207 0 G) lkX11_313 (cmWo_product P W) rfl rfl rfl (fun _ => dsC_210 P W _) nn210 rfl (Nat.le_of_ble_eq_true rfl) (Nat.le_of_ble_eq_true rfl) (fun _ => rfl) rfl (fun z11 G12 => ?_)
  refine r_aload_n 354 0 dX11_operator_353 rfl rfl rfl ?_
  refine r_iconst 355 2 dX11_operator_354 rfl rfl ?_
  refine r_aload_n 356 0 dX11_operator_355 rfl rfl rfl ?_
  refine r_get 359 (aI W) dX11_operator_356 fkX11_60 (fun _ => dsC_180 P W _) nn180 rfl rfl ?_
  refine r_callvV 362 (Mc := MBd_settle P W) (o := 180) (as := [aI 2, aI W]) (st := []) dX11_operator_359 rfl (c_Bd_settle P W 2 W G12) lkX11_303 (cmBd_settle P W) rfl rfl rfl (fun _ => dsC_180 P W _) nn180 rfl (Nat.le_of_ble_eq_true rfl) (Nat.le_of_ble_eq_true rfl) (fun _ => rfl) rfl (fun z13 G14 => ?_)
  refine r_goto 438 dX11_operator_362 rfl ?_
  exact r_return dX11_operator_438 rfl
theorem s_Bd_operator_b399 (P W : Int) (s0 : Int) (s1 : Int) (s3 : Int) (G : St) : SS (MBd_operator P W) some 399 [(0, aR 180)] [aI s0, aI s1, aR 181, aI s3, aR 181, aR 210] G (Bd_operator_b399 P W s0 s1 s3 G) := by
  refine r_aload_n 400 0 dX11_operator_399 rfl rfl rfl ?_
  refine r_get 403 (aR 207) dX11_operator_400 fkX11_100 (fun _ => dsC_180 P W _) nn180 rfl rfl ?_
  refine r_iconst 404 0 dX11_operator_403 rfl rfl ?_
  refine r_callvV 407 (Mc := MWo_quotient P W) (o := 210) (as := [aR 181, aI s3, aR 181, aI s1, aI s0, aR 207, aI 0]) (st := []) dX11_operator_404 rfl (c_Wo_quotient P W 181 s3 181 s1 s0 207 0 G) lkX11_320 (cmWo_quotient P W) rfl rfl rfl (fun _ => dsC_210 P W _) nn210 rfl (Nat.le_of_ble_eq_true rfl) (Nat.le_of_ble_eq_true rfl) (fun _ => rfl) rfl (fun z15 G16 => ?_)
  refine r_aload_n 408 0 dX11_operator_407 rfl rfl rfl ?_
  refine r_iconst 409 2 dX11_operator_408 rfl rfl ?_
  refine r_aload_n 410 0 dX11_operator_409 rfl rfl rfl ?_
  refine r_get 413 (aI W) dX11_operator_410 fkX11_60 (fun _ => dsC_180 P W _) nn180 rfl rfl ?_
  refine r_callvV 416 (Mc := MBd_settle P W) (o := 180) (as := [aI 2, aI W]) (st := []) dX11_operator_413 rfl (c_Bd_settle P W 2 W G16) lkX11_303 (cmBd_settle P W) rfl rfl rfl (fun _ => dsC_180 P W _) nn180 rfl (Nat.le_of_ble_eq_true rfl) (Nat.le_of_ble_eq_true rfl) (fun _ => rfl) rfl (fun z17 G18 => ?_)
  refine r_goto 438 dX11_operator_416 rfl ?_
  exact r_return dX11_operator_438 rfl
theorem s_Bd_operator_b365 (P W : Int) (x1 : Int) (x2 : Int) (x3 : Int) (G : St) : SS (MBd_operator P W) some 365 [(0, aR 180), (1, aI x1), (2, aI x2), (3, aI x3)] [] G (Bd_operator_b365 P W x1 x2 x3 G) := by
  refine r_aload_n 366 0 dX11_operator_365 rfl rfl rfl ?_
  refine r_get 369 (aR 210) dX11_operator_366 fkX11_81 (fun _ => dsC_180 P W _) nn180 rfl rfl ?_
  refine r_aload_n 370 0 dX11_operator_369 rfl rfl rfl ?_
  refine r_get 373 (aR 181) dX11_operator_370 fkX11_85 (fun _ => dsC_180 P W _) nn180 rfl rfl ?_
  refine r_iload_n 374 2 dX11_operator_373 rfl rfl rfl ?_
  refine r_aload_n 375 0 dX11_operator_374 rfl rfl rfl ?_
  refine r_get 378 (aR 181) dX11_operator_375 fkX11_85 (fun _ => dsC_180 P W _) nn180 rfl rfl ?_
  refine r_iload_n 379 3 dX11_operator_378 rfl rfl rfl ?_
  refine r_aload_n 380 0 dX11_operator_379 rfl rfl rfl ?_
  refine r_get 383 (aR 110) dX11_operator_380 fkX11_64 (fun _ => dsC_180 P W _) nn180 rfl rfl ?_
  refine r_get 386 (aR 111) dX11_operator_383 fkX11_172 (fun _ => dsC_110 P W _) nn110 rfl rfl ?_
  refine r_iload_n 387 1 dX11_operator_386 rfl rfl rfl ?_
  refine r_aald5 388 dX11_operator_387 (fun _ _ _ => dsC_111 P W _) (fun _ _ => nn111) rfl ?_
  refine r_gets 391 55 dX11_operator_388 q1492 rfl rfl ?_
  refine r_acmp_ne 398 394 dX11_operator_391 rfl rfl ?_ ?_
  · refine r_iconst 399 0 dX11_operator_398 rfl rfl ?_
    refine r_to [0] [(0, aR 180)] rfl ?_
    exact s_Bd_operator_b399 P W 0 x3 x2 G
  · refine r_iconst 395 1 dX11_operator_394 rfl rfl ?_
    refine r_goto 399 dX11_operator_395 rfl ?_
    refine r_to [0] [(0, aR 180)] rfl ?_
    exact s_Bd_operator_b399 P W 1 x3 x2 G
theorem s_Bd_operator_b88 (P W : Int) (x3 : Int) (G : St) : SS (MBd_operator P W) some 88 [(0, aR 180), (3, aI x3)] [] G (Bd_operator_b88 P W x3 G) := by
  refine r_aload_n 89 0 dX11_operator_88 rfl rfl rfl ?_
  refine r_get 92 (aR 210) dX11_operator_89 fkX11_81 (fun _ => dsC_180 P W _) nn180 rfl rfl ?_
  refine r_aload_n 93 0 dX11_operator_92 rfl rfl rfl ?_
  refine r_get 96 (aR 206) dX11_operator_93 fkX11_97 (fun _ => dsC_180 P W _) nn180 rfl rfl ?_
  refine r_iconst 97 0 dX11_operator_96 rfl rfl ?_
  refine r_aload_n 98 0 dX11_operator_97 rfl rfl rfl ?_
  refine r_get 101 (aR 181) dX11_operator_98 fkX11_85 (fun _ => dsC_180 P W _) nn180 rfl rfl ?_
  refine r_iload_n 102 1 dX11_operator_101 rfl rfl rfl ?_
  refine r_iconst 103 1 dX11_operator_102 rfl rfl ?_
  refine r_iconst 104 (-1) dX11_operator_103 rfl rfl ?_
  refine r_aload_n 105 0 dX11_operator_104 rfl rfl rfl ?_
  refine r_get 108 (aI W) dX11_operator_105 fkX11_60 (fun _ => dsC_180 P W _) nn180 rfl rfl ?_
  refine r_aload_n 109 0 dX11_operator_108 rfl rfl rfl ?_
  refine r_get 112 (aR 207) dX11_operator_109 fkX11_100 (fun _ => dsC_180 P W _) nn180 rfl rfl ?_
  refine r_iconst 113 0 dX11_operator_112 rfl rfl ?_
  refine r_callvV 116 (Mc := MWo_sum P W) (o := 210) (as := [aR 206, aI 0, aR 181, aI x3, aI 1, aI (-1), aI W, aR 207, aI 0]) (st := []) dX11_operator_113 rfl (c_Wo_sum P W 206 0 181 x3 1 (-1) W 207 0 G) lkX11_306 (cmWo_sum P W) rfl rfl rfl (fun _ => dsC_210 P W _) nn210 rfl (Nat.le_of_ble_eq_true rfl) (Nat.le_of_ble_eq_true rfl) (fun _ => rfl) rfl (fun z19 G20 => ?_)
  refine r_aload_n 117 0 dX11_operator_116 rfl rfl rfl ?_
  refine r_iconst 118 1 dX11_operator_117 rfl rfl ?_
  refine r_aload_n 119 0 dX11_operator_118 rfl rfl rfl ?_
  refine r_get 122 (aI W) dX11_operator_119 fkX11_60 (fun _ => dsC_180 P W _) nn180 rfl rfl ?_
  refine r_callvV 125 (Mc := MBd_settle P W) (o := 180) (as := [aI 1, aI W]) (st := []) dX11_operator_122 rfl (c_Bd_settle P W 1 W G20) lkX11_303 (cmBd_settle P W) rfl rfl rfl (fun _ => dsC_180 P W _) nn180 rfl (Nat.le_of_ble_eq_true rfl) (Nat.le_of_ble_eq_true rfl) (fun _ => rfl) rfl (fun z21 G22 => ?_)
  refine r_goto 438 dX11_operator_125 rfl ?_
  exact r_return dX11_operator_438 rfl
theorem s_Bd_operator_s131 (P W : Int) (x3 : Int) (X131 : Int × St → Option (Int × St)) (hX131 : ∀ s, So (MBd_operator P W) 131 [(0, aR 180), (3, aI x3), (4, aI (s.1))] [] s.2 (X131 s)) (x4 : Int) (G : St) : SS (MBd_operator P W) (lk X131 some) 131 [(0, aR 180), (3, aI x3), (4, aI x4)] [] G (Bd_operator_s131 P W x3 x4 G) := by
  refine r_iload 133 2 dX11_operator_131 rfl rfl ?_
  refine r_aload_n 134 0 dX11_operator_133 rfl rfl rfl ?_
  refine r_get 137 (aI W) dX11_operator_134 fkX11_60 (fun _ => dsC_180 P W _) nn180 rfl rfl ?_
  refine r_icmp_ge 159 140 dX11_operator_137 rfl rfl ?_ ?_
  · refine SS.ex ?_
    refine r_goto 438 dX11_operator_159 rfl ?_
    exact r_return dX11_operator_438 rfl
  · refine r_aload_n 141 0 dX11_operator_140 rfl rfl rfl ?_
    refine r_get 144 (aR 181) dX11_operator_141 fkX11_85 (fun _ => dsC_180 P W _) nn180 rfl rfl ?_
    refine r_iload_n 145 1 dX11_operator_144 rfl rfl rfl ?_
    refine r_iload 147 2 dX11_operator_145 rfl rfl ?_
    refine r_iadd 148 dX11_operator_147 rfl ?_
    refine r_dup2 149 dX11_operator_148 rfl rfl rfl ?_
    refine r_iald 150 dX11_operator_149 (fun _ _ _ => dsC_181 P W _) (fun _ _ => nn181) rfl ?_
    refine r_iconst 151 1 dX11_operator_150 rfl rfl ?_
    refine r_ixor 152 dX11_operator_151 rfl ?_
    refine r_iast 153 dX11_operator_152 (fun _ _ _ => dsC_181 P W _) (fun _ _ => nn181) rfl ?_
    refine ss_tk (fun G23 => ?_)
    refine r_iinc 156 [(4, aI (x4 + 1)), (0, aR 180), (3, aI x3)] 2 dX11_operator_153 rfl rfl rfl rfl ?_
    refine r_goto 131 dX11_operator_156 rfl ?_
    refine r_to [1, 2, 0] [(0, aR 180), (3, aI x3), (4, aI (x4 + 1))] rfl ?_
    exact SS.back (hX131 (x4 + 1, G23))
theorem sl_Bd_operator_131 (P W : Int) (x3 : Int) (x4 : Int) (G : St) : SS (MBd_operator P W) some 131 [(0, aR 180), (3, aI x3), (4, aI x4)] [] G (Bd_operator_l131 P W x3 x4 G) := by
  exact SS.loop (σ := Int × St) (fun s => [(0, aR 180), (3, aI x3), (4, aI (s.1))]) (fun s => s.2) (fun s => Bd_operator_s131 P W x3 s.1 s.2) (fun X131 hX131 s => s_Bd_operator_s131 P W x3  X131 hX131 s.1 s.2) (x4, G)
theorem s_Bd_operator_b128 (P W : Int) (x3 : Int) (G : St) : SS (MBd_operator P W) some 128 [(0, aR 180), (3, aI x3)] [] G (Bd_operator_b128 P W x3 G) := by
  refine r_iconst 129 0 dX11_operator_128 rfl rfl ?_
  refine r_istore 131 [(4, aI 0), (0, aR 180), (3, aI x3)] dX11_operator_129 rfl rfl rfl ?_
  refine r_to [1, 2, 0] [(0, aR 180), (3, aI x3), (4, aI 0)] rfl ?_
  exact sl_Bd_operator_131 P W x3 0 G
theorem s_Bd_operator_b162 (P W : Int) (x3 : Int) (G : St) : SS (MBd_operator P W) some 162 [(0, aR 180), (3, aI x3)] [] G (Bd_operator_b162 P W x3 G) := by
  refine r_aload_n 163 0 dX11_operator_162 rfl rfl rfl ?_
  refine r_get 166 (aR 181) dX11_operator_163 fkX11_85 (fun _ => dsC_180 P W _) nn180 rfl rfl ?_
  refine r_iload_n 167 1 dX11_operator_166 rfl rfl rfl ?_
  refine r_dup2 168 dX11_operator_167 rfl rfl rfl ?_
  refine r_iald 169 dX11_operator_168 (fun _ _ _ => dsC_181 P W _) (fun _ _ => nn181) rfl ?_
  refine r_iconst 170 1 dX11_operator_169 rfl rfl ?_
  refine r_ixor 171 dX11_operator_170 rfl ?_
  refine r_iast 172 dX11_operator_171 (fun _ _ _ => dsC_181 P W _) (fun _ _ => nn181) rfl ?_
  refine ss_tk (fun G24 => ?_)
  refine r_goto 438 dX11_operator_172 rfl ?_
  exact r_return dX11_operator_438 rfl
theorem s_Bd_operator_s193 (P W : Int) (x2 : Int) (x3 : Int) (x4 : Int) (X193 : Int × St → Option (Int × St)) (hX193 : ∀ s, So (MBd_operator P W) 193 [(0, aR 180), (2, aI x2), (3, aI x3), (4, aI x4), (5, aI (s.1))] [] s.2 (X193 s)) (x5 : Int) (G : St) : SS (MBd_operator P W) (lk X193 some) 193 [(0, aR 180), (2, aI x2), (3, aI x3), (4, aI x4), (5, aI x5)] [] G (Bd_operator_s193 P W x2 x3 x4 x5 G) := by
  refine r_iload 195 4 dX11_operator_193 rfl rfl ?_
  refine r_iload 197 3 dX11_operator_195 rfl rfl ?_
  refine r_icmp_ge 248 200 dX11_operator_197 rfl rfl ?_ ?_
  · refine SS.ex ?_
    refine r_aload_n 249 0 dX11_operator_248 rfl rfl rfl ?_
    refine r_iconst 250 3 dX11_operator_249 rfl rfl ?_
    refine r_iload 252 3 dX11_operator_250 rfl rfl ?_
    refine r_callvV 255 (Mc := MBd_settle P W) (o := 180) (as := [aI 3, aI x4]) (st := []) dX11_operator_252 rfl (c_Bd_settle P W 3 x4 G) lkX11_303 (cmBd_settle P W) rfl rfl rfl (fun _ => dsC_180 P W _) nn180 rfl (Nat.le_of_ble_eq_true rfl) (Nat.le_of_ble_eq_true rfl) (fun _ => rfl) rfl (fun z27 G28 => ?_)
    refine r_goto 438 dX11_operator_255 rfl ?_
    exact r_return dX11_operator_438 rfl
  · refine r_aload_n 201 0 dX11_operator_200 rfl rfl rfl ?_
    refine r_get 204 (aR 207) dX11_operator_201 fkX11_100 (fun _ => dsC_180 P W _) nn180 rfl rfl ?_
    refine r_iload 206 4 dX11_operator_204 rfl rfl ?_
    refine r_aload_n 207 0 dX11_operator_206 rfl rfl rfl ?_
    refine r_get 210 (aR 140) dX11_operator_207 fkX11_72 (fun _ => dsC_180 P W _) nn180 rfl rfl ?_
    refine r_aload_n 211 0 dX11_operator_210 rfl rfl rfl ?_
    refine r_get 214 (aR 181) dX11_operator_211 fkX11_85 (fun _ => dsC_180 P W _) nn180 rfl rfl ?_
    refine r_aload_n 215 0 dX11_operator_214 rfl rfl rfl ?_
    refine r_iconst 216 3 dX11_operator_215 rfl rfl ?_
    refine r_callvI 219 (Mc := MBd_place P W) (o := 180) (as := [aI 3]) (st := [aR 181, aR 140, aI x5, aR 207]) dX11_operator_216 rfl (c_Bd_place P W 3 G) lkX11_218 (cmBd_place P W) rfl rfl rfl (fun _ => dsC_180 P W _) nn180 rfl (Nat.le_of_ble_eq_true rfl) (Nat.le_of_ble_eq_true rfl) (fun _ => rfl) rfl (fun z29 G30 => ?_)
    refine r_iald 220 dX11_operator_219 (fun _ _ _ => dsC_181 P W _) (fun _ _ => nn181) rfl ?_
    refine r_aload_n 221 0 dX11_operator_220 rfl rfl rfl ?_
    refine r_get 224 (aR 181) dX11_operator_221 fkX11_85 (fun _ => dsC_180 P W _) nn180 rfl rfl ?_
    refine r_iload_n 225 1 dX11_operator_224 rfl rfl rfl ?_
    refine r_iload 227 4 dX11_operator_225 rfl rfl ?_
    refine r_iadd 228 dX11_operator_227 rfl ?_
    refine r_iald 229 dX11_operator_228 (fun _ _ _ => dsC_181 P W _) (fun _ _ => nn181) rfl ?_
    refine r_aload_n 230 0 dX11_operator_229 rfl rfl rfl ?_
    refine r_get 233 (aR 181) dX11_operator_230 fkX11_85 (fun _ => dsC_180 P W _) nn180 rfl rfl ?_
    refine r_iload_n 234 2 dX11_operator_233 rfl rfl rfl ?_
    refine r_iload 236 4 dX11_operator_234 rfl rfl ?_
    refine r_iadd 237 dX11_operator_236 rfl ?_
    refine r_iald 238 dX11_operator_237 (fun _ _ _ => dsC_181 P W _) (fun _ _ => nn181) rfl ?_
    refine r_callvI 241 (Mc := MCi_mux P W) (o := 140) (as := [aI (G30 181 z29), aI (G30 181 (x2 + x5)), aI (G30 181 (x3 + x5))]) (st := [aI x5, aR 207]) dX11_operator_238 rfl (c_Ci_mux P W (G30 181 z29) (G30 181 (x2 + x5)) (G30 181 (x3 + x5)) G30) lkX11_260 (cmCi_mux P W) rfl rfl rfl (fun _ => dsC_140 P W _) nn140 rfl (Nat.le_of_ble_eq_true rfl) (Nat.le_of_ble_eq_true rfl) (fun _ => rfl) rfl (fun z31 G32 => ?_)
    refine r_iast 242 dX11_operator_241 (fun _ _ _ => dsC_207 P W _) (fun _ _ => nn207) rfl ?_
    refine ss_tk (fun G33 => ?_)
    refine r_iinc 245 [(5, aI (x5 + 1)), (0, aR 180), (2, aI x2), (3, aI x3), (4, aI x4)] 4 dX11_operator_242 rfl rfl rfl rfl ?_
    refine r_goto 193 dX11_operator_245 rfl ?_
    refine r_to [1, 2, 3, 4, 0] [(0, aR 180), (2, aI x2), (3, aI x3), (4, aI x4), (5, aI (x5 + 1))] rfl ?_
    exact SS.back (hX193 (x5 + 1, G33))
theorem sl_Bd_operator_193 (P W : Int) (x2 : Int) (x3 : Int) (x4 : Int) (x5 : Int) (G : St) : SS (MBd_operator P W) some 193 [(0, aR 180), (2, aI x2), (3, aI x3), (4, aI x4), (5, aI x5)] [] G (Bd_operator_l193 P W x2 x3 x4 x5 G) := by
  exact SS.loop (σ := Int × St) (fun s => [(0, aR 180), (2, aI x2), (3, aI x3), (4, aI x4), (5, aI (s.1))]) (fun s => s.2) (fun s => Bd_operator_s193 P W x2 x3 x4 s.1 s.2) (fun X193 hX193 s => s_Bd_operator_s193 P W x2 x3 x4  X193 hX193 s.1 s.2) (x5, G)
theorem s_Bd_operator_b175 (P W : Int) (x1 : Int) (x2 : Int) (x3 : Int) (G : St) : SS (MBd_operator P W) some 175 [(0, aR 180), (1, aI x1), (2, aI x2), (3, aI x3)] [] G (Bd_operator_b175 P W x1 x2 x3 G) := by
  refine r_aload_n 176 0 dX11_operator_175 rfl rfl rfl ?_
  refine r_aload_n 177 0 dX11_operator_176 rfl rfl rfl ?_
  refine r_get 180 (aR 110) dX11_operator_177 fkX11_64 (fun _ => dsC_180 P W _) nn180 rfl rfl ?_
  refine r_get 183 (aR 114) dX11_operator_180 fkX11_200 (fun _ => dsC_110 P W _) nn110 rfl rfl ?_
  refine r_iload_n 184 1 dX11_operator_183 rfl rfl rfl ?_
  refine r_iald 185 dX11_operator_184 (fun _ _ _ => dsC_114 P W _) (fun _ _ => nn114) rfl ?_
  refine r_callvI 188 (Mc := MBd_bits P W) (o := 180) (as := [aI (G 114 x1)]) (st := []) dX11_operator_185 rfl (c_Bd_bits P W (G 114 x1) G) lkX11_248 (cmBd_bits P W) rfl rfl rfl (fun _ => dsC_180 P W _) nn180 rfl (Nat.le_of_ble_eq_true rfl) (Nat.le_of_ble_eq_true rfl) (fun _ => rfl) rfl (fun z25 G26 => ?_)
  refine r_istore 190 [(4, aI z25), (0, aR 180), (1, aI x1), (2, aI x2), (3, aI x3)] dX11_operator_188 rfl rfl rfl ?_
  refine r_iconst 191 0 dX11_operator_190 rfl rfl ?_
  refine r_istore 193 [(5, aI 0), (4, aI z25), (0, aR 180), (1, aI x1), (2, aI x2), (3, aI x3)] dX11_operator_191 rfl rfl rfl ?_
  refine r_to [2, 4, 5, 1, 0] [(0, aR 180), (2, aI x2), (3, aI x3), (4, aI z25), (5, aI 0)] rfl ?_
  exact sl_Bd_operator_193 P W x2 x3 z25 0 G26
theorem s_Bd_operator_b431 (P W : Int) (x1 : Int) (x2 : Int) (x3 : Int) (G : St) : SS (MBd_operator P W) some 431 [(0, aR 180), (1, aI x1), (2, aI x2), (3, aI x3)] [] G (Bd_operator_b431 P W x1 x2 x3 G) := by
  refine r_aload_n 432 0 dX11_operator_431 rfl rfl rfl ?_
  refine r_iload_n 433 1 dX11_operator_432 rfl rfl rfl ?_
  refine r_iload_n 434 2 dX11_operator_433 rfl rfl rfl ?_
  refine r_iload_n 435 3 dX11_operator_434 rfl rfl rfl ?_
  refine r_callvV 438 (Mc := MBd_bitwise P W) (o := 180) (as := [aI x1, aI x2, aI x3]) (st := []) dX11_operator_435 rfl (c_Bd_bitwise P W x1 x2 x3 G) lkX11_327 (cmBd_bitwise P W) rfl rfl rfl (fun _ => dsC_180 P W _) nn180 rfl (Nat.le_of_ble_eq_true rfl) (Nat.le_of_ble_eq_true rfl) (fun _ => rfl) rfl (fun z34 G35 => ?_)
  exact r_return dX11_operator_438 rfl
theorem s_Bd_operator (P W : Int) (x1 : Int) (G : St) : SS (MBd_operator P W) some 0 [(0, aR 180), (1, aI x1)] [] G (Bd_operator P W x1 G) := by
  refine r_aload_n 1 0 dX11_operator_0 rfl rfl rfl ?_
  refine r_iconst 2 2 dX11_operator_1 rfl rfl ?_
  refine r_callvI 5 (Mc := MBd_place P W) (o := 180) (as := [aI 2]) (st := []) dX11_operator_2 rfl (c_Bd_place P W 2 G) lkX11_218 (cmBd_place P W) rfl rfl rfl (fun _ => dsC_180 P W _) nn180 rfl (Nat.le_of_ble_eq_true rfl) (Nat.le_of_ble_eq_true rfl) (fun _ => rfl) rfl (fun z1 G2 => ?_)
  refine r_istore_n 6 [(2, aI z1), (0, aR 180), (1, aI x1)] dX11_operator_5 rfl rfl rfl rfl ?_
  refine r_aload_n 7 1 dX11_operator_6 rfl rfl rfl ?_
  refine r_iconst 8 1 dX11_operator_7 rfl rfl ?_
  refine r_callvI 11 (Mc := MBd_place P W) (o := 180) (as := [aI 1]) (st := []) dX11_operator_8 rfl (c_Bd_place P W 1 G2) lkX11_218 (cmBd_place P W) rfl rfl rfl (fun _ => dsC_180 P W _) nn180 rfl (Nat.le_of_ble_eq_true rfl) (Nat.le_of_ble_eq_true rfl) (fun _ => rfl) rfl (fun z3 G4 => ?_)
  refine r_istore_n 12 [(3, aI z3), (2, aI z1), (0, aR 180), (1, aI x1)] dX11_operator_11 rfl rfl rfl rfl ?_
  refine r_aload_n 13 2 dX11_operator_12 rfl rfl rfl ?_
  refine r_get 16 (aR 110) dX11_operator_13 fkX11_64 (fun _ => dsC_180 P W _) nn180 rfl rfl ?_
  refine r_get 19 (aR 111) dX11_operator_16 fkX11_172 (fun _ => dsC_110 P W _) nn110 rfl rfl ?_
  refine r_iload_n 20 3 dX11_operator_19 rfl rfl rfl ?_
  refine r_aald5 21 dX11_operator_20 (fun _ _ _ => dsC_111 P W _) (fun _ _ => nn111) rfl ?_
  refine r_ord 24 dX11_operator_21 q1436 rfl (Nat.le_of_ble_eq_true rfl) (Nat.le_of_ble_eq_true rfl) rfl ?_
  refine r_tsw 431 [(419, Bd_operator_b419 P W x1 z1 G4), (419, Bd_operator_b419 P W x1 z1 G4), (258, Bd_operator_b258 P W x1 z1 z3 G4), (258, Bd_operator_b258 P W x1 z1 z3 G4), (331, Bd_operator_b331 P W z1 z3 G4), (365, Bd_operator_b365 P W x1 z1 z3 G4), (365, Bd_operator_b365 P W x1 z1 z3 G4), (88, Bd_operator_b88 P W z3 G4), (128, Bd_operator_b128 P W z3 G4), (162, Bd_operator_b162 P W z3 G4), (175, Bd_operator_b175 P W x1 z1 z3 G4), (428, some (0, G4))] dX11_operator_24 rfl rfl rfl ⟨?_, ?_, ?_, ?_, ?_, ?_, ?_, ?_, ?_, ?_, ?_, ?_, trivial⟩ ?_
  · refine r_to [2, 3, 1] [(0, aR 180), (1, aI x1), (2, aI z1)] rfl ?_
    exact s_Bd_operator_b419 P W x1 z1 G4
  · refine r_to [2, 3, 1] [(0, aR 180), (1, aI x1), (2, aI z1)] rfl ?_
    exact s_Bd_operator_b419 P W x1 z1 G4
  · refine r_to [2, 3, 1, 0] [(0, aR 180), (1, aI x1), (2, aI z1), (3, aI z3)] rfl ?_
    exact s_Bd_operator_b258 P W x1 z1 z3 G4
  · refine r_to [2, 3, 1, 0] [(0, aR 180), (1, aI x1), (2, aI z1), (3, aI z3)] rfl ?_
    exact s_Bd_operator_b258 P W x1 z1 z3 G4
  · refine r_to [2, 1, 0] [(0, aR 180), (2, aI z1), (3, aI z3)] rfl ?_
    exact s_Bd_operator_b331 P W z1 z3 G4
  · refine r_to [2, 3, 1, 0] [(0, aR 180), (1, aI x1), (2, aI z1), (3, aI z3)] rfl ?_
    exact s_Bd_operator_b365 P W x1 z1 z3 G4
  · refine r_to [2, 3, 1, 0] [(0, aR 180), (1, aI x1), (2, aI z1), (3, aI z3)] rfl ?_
    exact s_Bd_operator_b365 P W x1 z1 z3 G4
  · refine r_to [2, 0] [(0, aR 180), (3, aI z3)] rfl ?_
    exact s_Bd_operator_b88 P W z3 G4
  · refine r_to [2, 0] [(0, aR 180), (3, aI z3)] rfl ?_
    exact s_Bd_operator_b128 P W z3 G4
  · refine r_to [2, 0] [(0, aR 180), (3, aI z3)] rfl ?_
    exact s_Bd_operator_b162 P W z3 G4
  · refine r_to [2, 3, 1, 0] [(0, aR 180), (1, aI x1), (2, aI z1), (3, aI z3)] rfl ?_
    exact s_Bd_operator_b175 P W x1 z1 z3 G4
  · refine r_goto 438 dX11_operator_428 rfl ?_
    exact r_return dX11_operator_438 rfl
  · refine r_to [2, 3, 1, 0] [(0, aR 180), (1, aI x1), (2, aI z1), (3, aI z3)] rfl ?_
    exact s_Bd_operator_b431 P W x1 z1 z3 G4
theorem c_Bd_operator (P W : Int) (x1 : Int) (G : St) : MG (MBd_operator P W) [aR 180, aI x1] G (Bd_operator P W x1 G) := MG.of plX11 (Nat.le_of_ble_eq_true rfl) (s_Bd_operator P W x1 G)
theorem s_Bd_assign_b239 (P W : Int) (G : St) : SS (MBd_assign P W) some 239 [(0, aR 180)] [] G (Bd_assign_b239 P W G) := by
  refine r_aload_n 240 0 dX11_assign_239 rfl rfl rfl ?_
  refine r_dup 241 dX11_assign_240 rfl rfl ?_
  refine r_get 244 (aI (G 180 6)) dX11_assign_241 fkX11_109 (fun _ => dsC_180 P W _) nn180 rfl rfl ?_
  refine r_iconst 245 2 dX11_assign_244 rfl rfl ?_
  refine r_isub 246 dX11_assign_245 rfl ?_
  refine r_putI 249 dX11_assign_246 fkX11_109 (fun _ => dsC_180 P W _) nn180 rfl rfl ?_
  refine ss_tk (fun G7 => ?_)
  exact r_return dX11_assign_249 rfl
theorem s_Bd_assign_s166 (P W : Int) (x2 : Int) (x3 : Int) (x4 : Int) (x5 : Int) (x6 : Int) (X147 : Int × St → Option (Int × St)) (hX147 : ∀ s, So (MBd_assign P W) 147 [(0, aR 180), (2, aI x2), (3, aI x3), (4, aI x4), (5, aI x5), (6, aI x6), (7, aI (s.1))] [] s.2 (X147 s)) (x7 : Int) (x8 : Int) (X166 : Int × St → Option (Int × St)) (hX166 : ∀ s, So (MBd_assign P W) 166 [(0, aR 180), (2, aI x2), (3, aI x3), (4, aI x4), (5, aI x5), (6, aI x6), (7, aI x7), (8, aI x8), (9, aI (s.1))] [] s.2 (X166 s)) (x9 : Int) (G : St) : SS (MBd_assign P W) (lk X166 (lk X147 some)) 166 [(0, aR 180), (2, aI x2), (3, aI x3), (4, aI x4), (5, aI x5), (6, aI x6), (7, aI x7), (8, aI x8), (9, aI x9)] [] G (Bd_assign_s166 P W x2 x3 x4 x5 x6 x7 x8 x9 G) := by
  refine r_iload 168 8 dX11_assign_166 rfl rfl ?_
  refine r_iload_n 169 1 dX11_assign_168 rfl rfl rfl ?_
  refine r_icmp_ge 233 172 dX11_assign_169 rfl rfl ?_ ?_
  · refine SS.ex ?_
    refine r_iinc 236 [(7, aI (x7 + 1)), (0, aR 180), (2, aI x2), (3, aI x3), (4, aI x4), (5, aI x5), (6, aI x6), (8, aI x8), (9, aI x9)] 6 dX11_assign_233 rfl rfl rfl rfl ?_
    refine r_goto 147 dX11_assign_236 rfl ?_
    refine r_to [1, 2, 3, 4, 5, 6, 0] [(0, aR 180), (2, aI x2), (3, aI x3), (4, aI x4), (5, aI x5), (6, aI x6), (7, aI (x7 + 1))] rfl ?_
    exact SS.back (hX147 (x7 + 1, G))
  · refine r_aload_n 173 0 dX11_assign_172 rfl rfl rfl ?_
    refine r_get 176 (aR 185) dX11_assign_173 fkX11_88 (fun _ => dsC_180 P W _) nn180 rfl rfl ?_
    refine r_aload_n 177 0 dX11_assign_176 rfl rfl rfl ?_
    refine r_get 180 (aI W) dX11_assign_177 fkX11_60 (fun _ => dsC_180 P W _) nn180 rfl rfl ?_
    refine r_iload 182 3 dX11_assign_180 rfl rfl ?_
    refine r_iload 184 6 dX11_assign_182 rfl rfl ?_
    refine r_iadd 185 dX11_assign_184 rfl ?_
    refine r_imul 186 dX11_assign_185 rfl ?_
    refine r_iload 188 8 dX11_assign_186 rfl rfl ?_
    refine r_iadd 189 dX11_assign_188 rfl ?_
    refine r_aload_n 190 0 dX11_assign_189 rfl rfl rfl ?_
    refine r_get 193 (aR 140) dX11_assign_190 fkX11_72 (fun _ => dsC_180 P W _) nn180 rfl rfl ?_
    refine r_iload 195 7 dX11_assign_193 rfl rfl ?_
    refine r_aload_n 196 0 dX11_assign_195 rfl rfl rfl ?_
    refine r_get 199 (aR 181) dX11_assign_196 fkX11_85 (fun _ => dsC_180 P W _) nn180 rfl rfl ?_
    refine r_iload 201 4 dX11_assign_199 rfl rfl ?_
    refine r_iload 203 8 dX11_assign_201 rfl rfl ?_
    refine r_iadd 204 dX11_assign_203 rfl ?_
    refine r_iald 205 dX11_assign_204 (fun _ _ _ => dsC_181 P W _) (fun _ _ => nn181) rfl ?_
    refine r_aload_n 206 0 dX11_assign_205 rfl rfl rfl ?_
    refine r_get 209 (aR 185) dX11_assign_206 fkX11_88 (fun _ => dsC_180 P W _) nn180 rfl rfl ?_
    refine r_aload_n 210 0 dX11_assign_209 rfl rfl rfl ?_
    refine r_get 213 (aI W) dX11_assign_210 fkX11_60 (fun _ => dsC_180 P W _) nn180 rfl rfl ?_
    refine r_iload 215 3 dX11_assign_213 rfl rfl ?_
    refine r_iload 217 6 dX11_assign_215 rfl rfl ?_
    refine r_iadd 218 dX11_assign_217 rfl ?_
    refine r_imul 219 dX11_assign_218 rfl ?_
    refine r_iload 221 8 dX11_assign_219 rfl rfl ?_
    refine r_iadd 222 dX11_assign_221 rfl ?_
    refine r_iald 223 dX11_assign_222 (fun _ _ _ => dsC_185 P W _) (fun _ _ => nn185) rfl ?_
    refine r_callvI 226 (Mc := MCi_mux P W) (o := 140) (as := [aI x8, aI (G 181 (x5 + x9)), aI (G 185 ((W * (x4 + x7)) + x9))]) (st := [aI ((W * (x4 + x7)) + x9), aR 185]) dX11_assign_223 rfl (c_Ci_mux P W x8 (G 181 (x5 + x9)) (G 185 ((W * (x4 + x7)) + x9)) G) lkX11_260 (cmCi_mux P W) rfl rfl rfl (fun _ => dsC_140 P W _) nn140 rfl (Nat.le_of_ble_eq_true rfl) (Nat.le_of_ble_eq_true rfl) (fun _ => rfl) rfl (fun z10 G11 => ?_)
    refine r_iast 227 dX11_assign_226 (fun _ _ _ => dsC_185 P W _) (fun _ _ => nn185) rfl ?_
    refine ss_tk (fun G12 => ?_)
    refine r_iinc 230 [(9, aI (x9 + 1)), (0, aR 180), (2, aI x2), (3, aI x3), (4, aI x4), (5, aI x5), (6, aI x6), (7, aI x7), (8, aI x8)] 8 dX11_assign_227 rfl rfl rfl rfl ?_
    refine r_goto 166 dX11_assign_230 rfl ?_
    refine r_to [1, 2, 3, 4, 5, 6, 7, 8, 0] [(0, aR 180), (2, aI x2), (3, aI x3), (4, aI x4), (5, aI x5), (6, aI x6), (7, aI x7), (8, aI x8), (9, aI (x9 + 1))] rfl ?_
    exact SS.back (hX166 (x9 + 1, G12))
theorem sl_Bd_assign_166 (P W : Int) (x2 : Int) (x3 : Int) (x4 : Int) (x5 : Int) (x6 : Int) (X147 : Int × St → Option (Int × St)) (hX147 : ∀ s, So (MBd_assign P W) 147 [(0, aR 180), (2, aI x2), (3, aI x3), (4, aI x4), (5, aI x5), (6, aI x6), (7, aI (s.1))] [] s.2 (X147 s)) (x7 : Int) (x8 : Int) (x9 : Int) (G : St) : SS (MBd_assign P W) (lk X147 some) 166 [(0, aR 180), (2, aI x2), (3, aI x3), (4, aI x4), (5, aI x5), (6, aI x6), (7, aI x7), (8, aI x8), (9, aI x9)] [] G (Bd_assign_l166 P W x2 x3 x4 x5 x6 x7 x8 x9 G) := by
  exact SS.loop (σ := Int × St) (fun s => [(0, aR 180), (2, aI x2), (3, aI x3), (4, aI x4), (5, aI x5), (6, aI x6), (7, aI x7), (8, aI x8), (9, aI (s.1))]) (fun s => s.2) (fun s => Bd_assign_s166 P W x2 x3 x4 x5 x6 x7 x8 s.1 s.2) (fun X166 hX166 s => s_Bd_assign_s166 P W x2 x3 x4 x5 x6 X147 hX147 x7 x8  X166 hX166 s.1 s.2) (x9, G)
theorem s_Bd_assign_s147 (P W : Int) (x2 : Int) (x3 : Int) (x4 : Int) (x5 : Int) (x6 : Int) (X147 : Int × St → Option (Int × St)) (hX147 : ∀ s, So (MBd_assign P W) 147 [(0, aR 180), (2, aI x2), (3, aI x3), (4, aI x4), (5, aI x5), (6, aI x6), (7, aI (s.1))] [] s.2 (X147 s)) (x7 : Int) (G : St) : SS (MBd_assign P W) (lk X147 some) 147 [(0, aR 180), (2, aI x2), (3, aI x3), (4, aI x4), (5, aI x5), (6, aI x6), (7, aI x7)] [] G (Bd_assign_s147 P W x2 x3 x4 x5 x6 x7 G) := by
  refine r_iload 149 6 dX11_assign_147 rfl rfl ?_
  refine r_iload_n 150 2 dX11_assign_149 rfl rfl rfl ?_
  refine r_icmp_ge 239 153 dX11_assign_150 rfl rfl ?_ ?_
  · refine SS.ex ?_
    refine r_to [0] [(0, aR 180)] rfl ?_
    exact s_Bd_assign_b239 P W G
  · refine r_aload_n 154 0 dX11_assign_153 rfl rfl rfl ?_
    refine r_iload 156 5 dX11_assign_154 rfl rfl ?_
    refine r_iload 158 6 dX11_assign_156 rfl rfl ?_
    refine r_callvI 161 (Mc := MBd_isElement P W) (o := 180) (as := [aI x6, aI x7]) (st := []) dX11_assign_158 rfl (c_Bd_isElement P W x6 x7 G) lkX11_257 (cmBd_isElement P W) rfl rfl rfl (fun _ => dsC_180 P W _) nn180 rfl (Nat.le_of_ble_eq_true rfl) (Nat.le_of_ble_eq_true rfl) (fun _ => rfl) rfl (fun z8 G9 => ?_)
    refine r_istore 163 [(8, aI z8), (0, aR 180), (2, aI x2), (3, aI x3), (4, aI x4), (5, aI x5), (6, aI x6), (7, aI x7)] dX11_assign_161 rfl rfl rfl ?_
    refine r_iconst 164 0 dX11_assign_163 rfl rfl ?_
    refine r_istore 166 [(9, aI 0), (8, aI z8), (0, aR 180), (2, aI x2), (3, aI x3), (4, aI x4), (5, aI x5), (6, aI x6), (7, aI x7)] dX11_assign_164 rfl rfl rfl ?_
    refine r_to [2, 3, 4, 5, 6, 7, 8, 1, 0] [(0, aR 180), (2, aI x2), (3, aI x3), (4, aI x4), (5, aI x5), (6, aI x6), (7, aI x7), (8, aI z8), (9, aI 0)] rfl ?_
    exact sl_Bd_assign_166 P W x2 x3 x4 x5 x6 X147 hX147 x7 z8 0 G9
theorem sl_Bd_assign_147 (P W : Int) (x2 : Int) (x3 : Int) (x4 : Int) (x5 : Int) (x6 : Int) (x7 : Int) (G : St) : SS (MBd_assign P W) some 147 [(0, aR 180), (2, aI x2), (3, aI x3), (4, aI x4), (5, aI x5), (6, aI x6), (7, aI x7)] [] G (Bd_assign_l147 P W x2 x3 x4 x5 x6 x7 G) := by
  exact SS.loop (σ := Int × St) (fun s => [(0, aR 180), (2, aI x2), (3, aI x3), (4, aI x4), (5, aI x5), (6, aI x6), (7, aI (s.1))]) (fun s => s.2) (fun s => Bd_assign_s147 P W x2 x3 x4 x5 x6 s.1 s.2) (fun X147 hX147 s => s_Bd_assign_s147 P W x2 x3 x4 x5 x6  X147 hX147 s.1 s.2) (x7, G)
theorem s_Bd_assign (P W : Int) (x1 : Int) (G : St) : SS (MBd_assign P W) some 0 [(0, aR 180), (1, aI x1)] [] G (Bd_assign P W x1 G) := by
  refine r_aload_n 1 0 dX11_assign_0 rfl rfl rfl ?_
  refine r_aload_n 2 0 dX11_assign_1 rfl rfl rfl ?_
  refine r_get 5 (aR 110) dX11_assign_2 fkX11_64 (fun _ => dsC_180 P W _) nn180 rfl rfl ?_
  refine r_get 8 (aR 114) dX11_assign_5 fkX11_200 (fun _ => dsC_110 P W _) nn110 rfl rfl ?_
  refine r_iload_n 9 1 dX11_assign_8 rfl rfl rfl ?_
  refine r_iald 10 dX11_assign_9 (fun _ _ _ => dsC_114 P W _) (fun _ _ => nn114) rfl ?_
  refine r_iconst 11 1 dX11_assign_10 rfl rfl ?_
  refine r_iand 12 dX11_assign_11 rfl ?_
  refine r_callvI 15 (Mc := MBd_bits P W) (o := 180) (as := [aI (j_an (G 114 x1) 1)]) (st := []) dX11_assign_12 rfl (c_Bd_bits P W (j_an (G 114 x1) 1) G) lkX11_248 (cmBd_bits P W) rfl rfl rfl (fun _ => dsC_180 P W _) nn180 rfl (Nat.le_of_ble_eq_true rfl) (Nat.le_of_ble_eq_true rfl) (fun _ => rfl) rfl (fun z1 G2 => ?_)
  refine r_istore_n 16 [(2, aI z1), (0, aR 180), (1, aI x1)] dX11_assign_15 rfl rfl rfl rfl ?_
  refine r_aload_n 17 1 dX11_assign_16 rfl rfl rfl ?_
  refine r_get 20 (aR 110) dX11_assign_17 fkX11_64 (fun _ => dsC_180 P W _) nn180 rfl rfl ?_
  refine r_get 23 (aR 114) dX11_assign_20 fkX11_200 (fun _ => dsC_110 P W _) nn110 rfl rfl ?_
  refine r_iload_n 24 2 dX11_assign_23 rfl rfl rfl ?_
  refine r_iald 25 dX11_assign_24 (fun _ _ _ => dsC_114 P W _) (fun _ _ => nn114) rfl ?_
  refine r_sipush 28 512 dX11_assign_25 rfl rfl ?_
  refine r_idiv 29 dX11_assign_28 rfl ?_
  refine r_istore_n 30 [(3, aI ((G2 114 x1) / 512)), (2, aI z1), (0, aR 180), (1, aI x1)] dX11_assign_29 rfl rfl rfl rfl ?_
  refine r_aload_n 31 2 dX11_assign_30 rfl rfl rfl ?_
  refine r_get 34 (aR 110) dX11_assign_31 fkX11_64 (fun _ => dsC_180 P W _) nn180 rfl rfl ?_
  refine r_get 37 (aR 112) dX11_assign_34 fkX11_245 (fun _ => dsC_110 P W _) nn110 rfl rfl ?_
  refine r_iload_n 38 3 dX11_assign_37 rfl rfl rfl ?_
  refine r_iald 39 dX11_assign_38 (fun _ _ _ => dsC_112 P W _) (fun _ _ => nn112) rfl ?_
  refine r_istore 41 [(4, aI (G2 112 x1)), (3, aI ((G2 114 x1) / 512)), (2, aI z1), (0, aR 180), (1, aI x1)] dX11_assign_39 rfl rfl rfl ?_
  refine r_iload_n 42 1 dX11_assign_41 rfl rfl rfl ?_
  refine r_if_ne 84 45 dX11_assign_42 rfl rfl ?_ ?_
  · refine r_aload_n 85 3 dX11_assign_84 rfl rfl rfl ?_
    refine r_iconst 86 1 dX11_assign_85 rfl rfl ?_
    refine r_callvI 89 (Mc := MBd_place P W) (o := 180) (as := [aI 1]) (st := []) dX11_assign_86 rfl (c_Bd_place P W 1 G2) lkX11_218 (cmBd_place P W) rfl rfl rfl (fun _ => dsC_180 P W _) nn180 rfl (Nat.le_of_ble_eq_true rfl) (Nat.le_of_ble_eq_true rfl) (fun _ => rfl) rfl (fun z3 G4 => ?_)
    refine r_istore 91 [(5, aI z3), (4, aI (G2 112 x1)), (3, aI ((G2 114 x1) / 512)), (2, aI z1), (0, aR 180), (1, aI x1)] dX11_assign_89 rfl rfl rfl ?_
    refine r_aload_n 92 4 dX11_assign_91 rfl rfl rfl ?_
    refine r_iconst 93 2 dX11_assign_92 rfl rfl ?_
    refine r_callvI 96 (Mc := MBd_place P W) (o := 180) (as := [aI 2]) (st := []) dX11_assign_93 rfl (c_Bd_place P W 2 G4) lkX11_218 (cmBd_place P W) rfl rfl rfl (fun _ => dsC_180 P W _) nn180 rfl (Nat.le_of_ble_eq_true rfl) (Nat.le_of_ble_eq_true rfl) (fun _ => rfl) rfl (fun z5 G6 => ?_)
    refine r_istore 98 [(6, aI z5), (5, aI z3), (4, aI (G2 112 x1)), (3, aI ((G2 114 x1) / 512)), (2, aI z1), (0, aR 180), (1, aI x1)] dX11_assign_96 rfl rfl rfl ?_
    refine r_aload_n 99 5 dX11_assign_98 rfl rfl rfl ?_
    refine r_get 102 (aR 110) dX11_assign_99 fkX11_64 (fun _ => dsC_180 P W _) nn180 rfl rfl ?_
    refine r_get 105 (aR 114) dX11_assign_102 fkX11_200 (fun _ => dsC_110 P W _) nn110 rfl rfl ?_
    refine r_iload_n 106 6 dX11_assign_105 rfl rfl rfl ?_
    refine r_iald 107 dX11_assign_106 (fun _ _ _ => dsC_114 P W _) (fun _ _ => nn114) rfl ?_
    refine r_iconst 108 2 dX11_assign_107 rfl rfl ?_
    refine r_iand 109 dX11_assign_108 rfl ?_
    refine r_if_eq 144 112 dX11_assign_109 rfl rfl ?_ ?_
    · refine r_iconst 145 0 dX11_assign_144 rfl rfl ?_
      refine r_istore 147 [(7, aI 0), (6, aI z5), (5, aI z3), (4, aI (G2 112 x1)), (3, aI ((G2 114 x1) / 512)), (2, aI z1), (0, aR 180), (1, aI x1)] dX11_assign_145 rfl rfl rfl ?_
      refine r_to [6, 5, 4, 3, 2, 1, 0] [(0, aR 180), (2, aI z1), (3, aI ((G2 114 x1) / 512)), (4, aI (G2 112 x1)), (5, aI z3), (6, aI z5), (7, aI 0)] rfl ?_
      exact sl_Bd_assign_147 P W z1 ((G2 114 x1) / 512) (G2 112 x1) z3 z5 0 G6
    · refine r_aload_n 113 5 dX11_assign_112 rfl rfl rfl ?_
      refine r_get 116 (aR 181) dX11_assign_113 fkX11_85 (fun _ => dsC_180 P W _) nn180 rfl rfl ?_
      refine r_iload 118 1 dX11_assign_116 rfl rfl ?_
      refine r_aload_n 119 5 dX11_assign_118 rfl rfl rfl ?_
      refine r_get 122 (aR 185) dX11_assign_119 fkX11_88 (fun _ => dsC_180 P W _) nn180 rfl rfl ?_
      refine r_aload_n 123 5 dX11_assign_122 rfl rfl rfl ?_
      refine r_get 126 (aI W) dX11_assign_123 fkX11_60 (fun _ => dsC_180 P W _) nn180 rfl rfl ?_
      refine r_iload 128 2 dX11_assign_126 rfl rfl ?_
      refine r_aload_n 129 5 dX11_assign_128 rfl rfl rfl ?_
      refine r_iload 131 0 dX11_assign_129 rfl rfl ?_
      refine r_callvL 134 (Mc := MBd_valueOf P W) (o := 180) (as := [aI z5]) (st := [aI (G2 112 x1), aI W, aR 185, aI z3, aR 181]) dX11_assign_131 rfl (c_Bd_valueOf P W z5 G6) lkX11_222 (cmBd_valueOf P W) rfl rfl rfl (fun _ => dsC_180 P W _) nn180 rfl (Nat.le_of_ble_eq_true rfl) (Nat.le_of_ble_eq_true rfl) (fun _ => rfl) rfl (fun z13 G14 => ?_)
      refine r_l2iw 135 dX11_assign_134 rfl ?_
      refine r_iadd 136 dX11_assign_135 rfl ?_
      refine r_imul 137 dX11_assign_136 rfl ?_
      refine r_iload_n 138 4 dX11_assign_137 rfl rfl rfl ?_
      refine r_acopy 141 0 dX11_assign_138 q1475 (Or.inl rfl) (fun _ _ => dsC_181 P W _) (fun _ => nn181) (fun _ _ => dsC_185 P W _) (fun _ => nn185) (Nat.le_of_ble_eq_true rfl) (Nat.le_of_ble_eq_true rfl) rfl rfl ?_
      refine ss_tk (fun G15 => ?_)
      refine r_goto 239 dX11_assign_141 rfl ?_
      refine r_to [5] [(0, aR 180)] rfl ?_
      exact s_Bd_assign_b239 P W G15
  · refine r_aload_n 46 3 dX11_assign_45 rfl rfl rfl ?_
    refine r_dup 47 dX11_assign_46 rfl rfl ?_
    refine r_get 50 (aI (G2 180 6)) dX11_assign_47 fkX11_109 (fun _ => dsC_180 P W _) nn180 rfl rfl ?_
    refine r_iconst 51 1 dX11_assign_50 rfl rfl ?_
    refine r_isub 52 dX11_assign_51 rfl ?_
    refine r_putI 55 dX11_assign_52 fkX11_109 (fun _ => dsC_180 P W _) nn180 rfl rfl ?_
    refine ss_tk (fun G16 => ?_)
    refine r_aload_n 56 3 dX11_assign_55 rfl rfl rfl ?_
    refine r_get 59 (aR 181) dX11_assign_56 fkX11_85 (fun _ => dsC_180 P W _) nn180 rfl rfl ?_
    refine r_aload_n 60 3 dX11_assign_59 rfl rfl rfl ?_
    refine r_get 63 (aI W) dX11_assign_60 fkX11_60 (fun _ => dsC_180 P W _) nn180 rfl rfl ?_
    refine r_aload_n 64 3 dX11_assign_63 rfl rfl rfl ?_
    refine r_get 67 (aI (G16 180 6)) dX11_assign_64 fkX11_109 (fun _ => dsC_180 P W _) nn180 rfl rfl ?_
    refine r_imul 68 dX11_assign_67 rfl ?_
    refine r_aload_n 69 3 dX11_assign_68 rfl rfl rfl ?_
    refine r_get 72 (aR 185) dX11_assign_69 fkX11_88 (fun _ => dsC_180 P W _) nn180 rfl rfl ?_
    refine r_aload_n 73 3 dX11_assign_72 rfl rfl rfl ?_
    refine r_get 76 (aI W) dX11_assign_73 fkX11_60 (fun _ => dsC_180 P W _) nn180 rfl rfl ?_
    refine r_iload 78 0 dX11_assign_76 rfl rfl ?_
    refine r_imul 79 dX11_assign_78 rfl ?_
    refine r_iload_n 80 2 dX11_assign_79 rfl rfl rfl ?_
    refine r_acopy 83 0 dX11_assign_80 q1475 (Or.inl rfl) (fun _ _ => dsC_181 P W _) (fun _ => nn181) (fun _ _ => dsC_185 P W _) (fun _ => nn185) (Nat.le_of_ble_eq_true rfl) (Nat.le_of_ble_eq_true rfl) rfl rfl ?_
    refine ss_tk (fun G17 => ?_)
    exact r_return dX11_assign_83 rfl
theorem c_Bd_assign (P W : Int) (x1 : Int) (G : St) : MG (MBd_assign P W) [aR 180, aI x1] G (Bd_assign P W x1 G) := MG.of plX11 (Nat.le_of_ble_eq_true rfl) (s_Bd_assign P W x1 G)
theorem s_Bd_back (P W : Int) (G : St) : SS (MBd_back P W) some 0 [(0, aR 180)] [] G (Bd_back P W G) := by
  refine r_aload_n 1 0 dX11_back_0 rfl rfl rfl ?_
  refine r_dup 2 dX11_back_1 rfl rfl ?_
  refine r_get 5 (aI (G 180 29)) dX11_back_2 fkX11_130 (fun _ => dsC_180 P W _) nn180 rfl rfl ?_
  refine r_iconst 6 1 dX11_back_5 rfl rfl ?_
  refine r_isub 7 dX11_back_6 rfl ?_
  refine r_putI 10 dX11_back_7 fkX11_130 (fun _ => dsC_180 P W _) nn180 rfl rfl ?_
  refine ss_tk (fun G1 => ?_)
  refine r_aload_n 11 0 dX11_back_10 rfl rfl rfl ?_
  refine r_get 14 (aI W) dX11_back_11 fkX11_60 (fun _ => dsC_180 P W _) nn180 rfl rfl ?_
  refine r_aload_n 15 0 dX11_back_14 rfl rfl rfl ?_
  refine r_get 18 (aI (G1 180 6)) dX11_back_15 fkX11_109 (fun _ => dsC_180 P W _) nn180 rfl rfl ?_
  refine r_iconst 19 1 dX11_back_18 rfl rfl ?_
  refine r_isub 20 dX11_back_19 rfl ?_
  refine r_imul 21 dX11_back_20 rfl ?_
  refine r_istore_n 22 [(1, aI (W * ((G1 180 6) - 1))), (0, aR 180)] dX11_back_21 rfl rfl rfl rfl ?_
  refine r_aload_n 23 1 dX11_back_22 rfl rfl rfl ?_
  refine r_aload_n 24 1 dX11_back_23 rfl rfl rfl ?_
  refine r_get 27 (aR 202) dX11_back_24 fkX11_54 (fun _ => dsC_180 P W _) nn180 rfl rfl ?_
  refine r_aload_n 28 1 dX11_back_27 rfl rfl rfl ?_
  refine r_get 31 (aI (G1 180 29)) dX11_back_28 fkX11_130 (fun _ => dsC_180 P W _) nn180 rfl rfl ?_
  refine r_iald 32 dX11_back_31 (fun _ _ _ => dsC_202 P W _) (fun _ _ => nn202) rfl ?_
  refine r_putI 35 dX11_back_32 fkX11_109 (fun _ => dsC_180 P W _) nn180 rfl rfl ?_
  refine ss_tk (fun G2 => ?_)
  refine r_aload_n 36 1 dX11_back_35 rfl rfl rfl ?_
  refine r_get 39 (aR 181) dX11_back_36 fkX11_85 (fun _ => dsC_180 P W _) nn180 rfl rfl ?_
  refine r_iload_n 40 0 dX11_back_39 rfl rfl rfl ?_
  refine r_aload_n 41 1 dX11_back_40 rfl rfl rfl ?_
  refine r_get 44 (aR 181) dX11_back_41 fkX11_85 (fun _ => dsC_180 P W _) nn180 rfl rfl ?_
  refine r_aload_n 45 1 dX11_back_44 rfl rfl rfl ?_
  refine r_get 48 (aI W) dX11_back_45 fkX11_60 (fun _ => dsC_180 P W _) nn180 rfl rfl ?_
  refine r_aload_n 49 1 dX11_back_48 rfl rfl rfl ?_
  refine r_get 52 (aI (G2 180 6)) dX11_back_49 fkX11_109 (fun _ => dsC_180 P W _) nn180 rfl rfl ?_
  refine r_imul 53 dX11_back_52 rfl ?_
  refine r_aload_n 54 1 dX11_back_53 rfl rfl rfl ?_
  refine r_get 57 (aI W) dX11_back_54 fkX11_60 (fun _ => dsC_180 P W _) nn180 rfl rfl ?_
  refine r_acopy 60 0 dX11_back_57 q1475 (Or.inl rfl) (fun _ _ => dsC_181 P W _) (fun _ => nn181) (fun _ _ => dsC_181 P W _) (fun _ => nn181) (Nat.le_of_ble_eq_true rfl) (Nat.le_of_ble_eq_true rfl) rfl rfl ?_
  refine ss_tk (fun G3 => ?_)
  refine r_aload_n 61 1 dX11_back_60 rfl rfl rfl ?_
  refine r_dup 62 dX11_back_61 rfl rfl ?_
  refine r_get 65 (aI (G3 180 6)) dX11_back_62 fkX11_109 (fun _ => dsC_180 P W _) nn180 rfl rfl ?_
  refine r_iconst 66 1 dX11_back_65 rfl rfl ?_
  refine r_iadd 67 dX11_back_66 rfl ?_
  refine r_putI 70 dX11_back_67 fkX11_109 (fun _ => dsC_180 P W _) nn180 rfl rfl ?_
  refine ss_tk (fun G4 => ?_)
  refine r_aload_n 71 1 dX11_back_70 rfl rfl rfl ?_
  refine r_aload_n 72 1 dX11_back_71 rfl rfl rfl ?_
  refine r_get 75 (aR 201) dX11_back_72 fkX11_51 (fun _ => dsC_180 P W _) nn180 rfl rfl ?_
  refine r_aload_n 76 1 dX11_back_75 rfl rfl rfl ?_
  refine r_get 79 (aI (G4 180 29)) dX11_back_76 fkX11_130 (fun _ => dsC_180 P W _) nn180 rfl rfl ?_
  refine r_iald 80 dX11_back_79 (fun _ _ _ => dsC_201 P W _) (fun _ _ => nn201) rfl ?_
  refine r_putI 83 dX11_back_80 fkX11_136 (fun _ => dsC_180 P W _) nn180 rfl rfl ?_
  refine ss_tk (fun G5 => ?_)
  exact r_return dX11_back_83 rfl
theorem c_Bd_back (P W : Int) (G : St) : MG (MBd_back P W) [aR 180] G (Bd_back P W G) := MG.of plX11 (Nat.le_of_ble_eq_true rfl) (s_Bd_back P W G)
theorem s_Bd_input_s39 (P W : Int) (x1 : Int) (x2 : Int) (x3 : Int) (X39 : Int × St → Option (Int × St)) (hX39 : ∀ s, So (MBd_input P W) 39 [(0, aR 180), (1, aI x1), (2, aI x2), (3, aI x3), (4, aI (s.1))] [] s.2 (X39 s)) (x4 : Int) (G : St) : SS (MBd_input P W) (lk X39 some) 39 [(0, aR 180), (1, aI x1), (2, aI x2), (3, aI x3), (4, aI x4)] [] G (Bd_input_s39 P W x1 x2 x3 x4 G) := by
  refine r_iload 41 4 dX11_input_39 rfl rfl ?_
  refine r_iload_n 42 3 dX11_input_41 rfl rfl rfl ?_
  refine r_icmp_ge 116 45 dX11_input_42 rfl rfl ?_ ?_
  · refine SS.ex ?_
    exact r_return dX11_input_116 rfl
  · refine r_aload_n 46 0 dX11_input_45 rfl rfl rfl ?_
    refine r_get 49 (aR 182) dX11_input_46 fkX11_9 (fun _ => dsC_180 P W _) nn180 rfl rfl ?_
    refine r_aload_n 50 0 dX11_input_49 rfl rfl rfl ?_
    refine r_get 53 (aI (G 180 13)) dX11_input_50 fkX11_118 (fun _ => dsC_180 P W _) nn180 rfl rfl ?_
    refine r_aload_n 54 0 dX11_input_53 rfl rfl rfl ?_
    refine r_get 57 (aI (G 180 14)) dX11_input_54 fkX11_121 (fun _ => dsC_180 P W _) nn180 rfl rfl ?_
    refine r_iast 58 dX11_input_57 (fun _ _ _ => dsC_182 P W _) (fun _ _ => nn182) rfl ?_
    refine ss_tk (fun G4 => ?_)
    refine r_aload_n 59 0 dX11_input_58 rfl rfl rfl ?_
    refine r_get 62 (aR 183) dX11_input_59 fkX11_15 (fun _ => dsC_180 P W _) nn180 rfl rfl ?_
    refine r_aload_n 63 0 dX11_input_62 rfl rfl rfl ?_
    refine r_get 66 (aI (G4 180 13)) dX11_input_63 fkX11_118 (fun _ => dsC_180 P W _) nn180 rfl rfl ?_
    refine r_iload_n 67 2 dX11_input_66 rfl rfl rfl ?_
    refine r_iast 68 dX11_input_67 (fun _ _ _ => dsC_183 P W _) (fun _ _ => nn183) rfl ?_
    refine ss_tk (fun G5 => ?_)
    refine r_aload_n 69 0 dX11_input_68 rfl rfl rfl ?_
    refine r_get 72 (aR 184) dX11_input_69 fkX11_18 (fun _ => dsC_180 P W _) nn180 rfl rfl ?_
    refine r_aload_n 73 0 dX11_input_72 rfl rfl rfl ?_
    refine r_get 76 (aI (G5 180 13)) dX11_input_73 fkX11_118 (fun _ => dsC_180 P W _) nn180 rfl rfl ?_
    refine r_aload_n 77 0 dX11_input_76 rfl rfl rfl ?_
    refine r_get 80 (aR 110) dX11_input_77 fkX11_64 (fun _ => dsC_180 P W _) nn180 rfl rfl ?_
    refine r_get 83 (aR 114) dX11_input_80 fkX11_200 (fun _ => dsC_110 P W _) nn110 rfl rfl ?_
    refine r_iload_n 84 1 dX11_input_83 rfl rfl rfl ?_
    refine r_iald 85 dX11_input_84 (fun _ _ _ => dsC_114 P W _) (fun _ _ => nn114) rfl ?_
    refine r_sipush 88 256 dX11_input_85 rfl rfl ?_
    refine r_idiv 89 dX11_input_88 rfl ?_
    refine r_iast 90 dX11_input_89 (fun _ _ _ => dsC_184 P W _) (fun _ _ => nn184) rfl ?_
    refine ss_tk (fun G6 => ?_)
    refine r_aload_n 91 0 dX11_input_90 rfl rfl rfl ?_
    refine r_dup 92 dX11_input_91 rfl rfl ?_
    refine r_get 95 (aI (G6 180 13)) dX11_input_92 fkX11_118 (fun _ => dsC_180 P W _) nn180 rfl rfl ?_
    refine r_iconst 96 1 dX11_input_95 rfl rfl ?_
    refine r_iadd 97 dX11_input_96 rfl ?_
    refine r_putI 100 dX11_input_97 fkX11_118 (fun _ => dsC_180 P W _) nn180 rfl rfl ?_
    refine ss_tk (fun G7 => ?_)
    refine r_aload_n 101 0 dX11_input_100 rfl rfl rfl ?_
    refine r_dup 102 dX11_input_101 rfl rfl ?_
    refine r_get 105 (aI (G7 180 14)) dX11_input_102 fkX11_121 (fun _ => dsC_180 P W _) nn180 rfl rfl ?_
    refine r_iload_n 106 2 dX11_input_105 rfl rfl rfl ?_
    refine r_iadd 107 dX11_input_106 rfl ?_
    refine r_putI 110 dX11_input_107 fkX11_121 (fun _ => dsC_180 P W _) nn180 rfl rfl ?_
    refine ss_tk (fun G8 => ?_)
    refine r_iinc 113 [(4, aI (x4 + 1)), (0, aR 180), (1, aI x1), (2, aI x2), (3, aI x3)] 4 dX11_input_110 rfl rfl rfl rfl ?_
    refine r_goto 39 dX11_input_113 rfl ?_
    refine r_to [1, 2, 3, 4, 0] [(0, aR 180), (1, aI x1), (2, aI x2), (3, aI x3), (4, aI (x4 + 1))] rfl ?_
    exact SS.back (hX39 (x4 + 1, G8))
theorem sl_Bd_input_39 (P W : Int) (x1 : Int) (x2 : Int) (x3 : Int) (x4 : Int) (G : St) : SS (MBd_input P W) some 39 [(0, aR 180), (1, aI x1), (2, aI x2), (3, aI x3), (4, aI x4)] [] G (Bd_input_l39 P W x1 x2 x3 x4 G) := by
  exact SS.loop (σ := Int × St) (fun s => [(0, aR 180), (1, aI x1), (2, aI x2), (3, aI x3), (4, aI (s.1))]) (fun s => s.2) (fun s => Bd_input_s39 P W x1 x2 x3 s.1 s.2) (fun X39 hX39 s => s_Bd_input_s39 P W x1 x2 x3  X39 hX39 s.1 s.2) (x4, G)
theorem s_Bd_input (P W : Int) (x1 : Int) (G : St) : SS (MBd_input P W) some 0 [(0, aR 180), (1, aI x1)] [] G (Bd_input P W x1 G) := by
  refine r_aload_n 1 0 dX11_input_0 rfl rfl rfl ?_
  refine r_aload_n 2 0 dX11_input_1 rfl rfl rfl ?_
  refine r_get 5 (aR 110) dX11_input_2 fkX11_64 (fun _ => dsC_180 P W _) nn180 rfl rfl ?_
  refine r_get 8 (aR 114) dX11_input_5 fkX11_200 (fun _ => dsC_110 P W _) nn110 rfl rfl ?_
  refine r_iload_n 9 1 dX11_input_8 rfl rfl rfl ?_
  refine r_iald 10 dX11_input_9 (fun _ _ _ => dsC_114 P W _) (fun _ _ => nn114) rfl ?_
  refine r_iconst 11 1 dX11_input_10 rfl rfl ?_
  refine r_iand 12 dX11_input_11 rfl ?_
  refine r_callvI 15 (Mc := MBd_bits P W) (o := 180) (as := [aI (j_an (G 114 x1) 1)]) (st := []) dX11_input_12 rfl (c_Bd_bits P W (j_an (G 114 x1) 1) G) lkX11_248 (cmBd_bits P W) rfl rfl rfl (fun _ => dsC_180 P W _) nn180 rfl (Nat.le_of_ble_eq_true rfl) (Nat.le_of_ble_eq_true rfl) (fun _ => rfl) rfl (fun z1 G2 => ?_)
  refine r_istore_n 16 [(2, aI z1), (0, aR 180), (1, aI x1)] dX11_input_15 rfl rfl rfl rfl ?_
  refine r_iconst 17 1 dX11_input_16 rfl rfl ?_
  refine r_aload_n 18 1 dX11_input_17 rfl rfl rfl ?_
  refine r_get 21 (aR 110) dX11_input_18 fkX11_64 (fun _ => dsC_180 P W _) nn180 rfl rfl ?_
  refine r_get 24 (aR 114) dX11_input_21 fkX11_200 (fun _ => dsC_110 P W _) nn110 rfl rfl ?_
  refine r_iload_n 25 2 dX11_input_24 rfl rfl rfl ?_
  refine r_iald 26 dX11_input_25 (fun _ _ _ => dsC_114 P W _) (fun _ _ => nn114) rfl ?_
  refine r_sipush 29 256 dX11_input_26 rfl rfl ?_
  refine r_irem 30 dX11_input_29 rfl ?_
  refine r_iconst 31 2 dX11_input_30 rfl rfl ?_
  refine r_idiv 32 dX11_input_31 rfl ?_
  refine r_mmax 35 dX11_input_32 q1582 (Nat.le_of_ble_eq_true rfl) (Nat.le_of_ble_eq_true rfl) rfl rfl ?_
  refine r_istore_n 36 [(3, aI (if 1 < (((G2 114 x1) % 256) / 2) then (((G2 114 x1) % 256) / 2) else 1)), (2, aI z1), (0, aR 180), (1, aI x1)] dX11_input_35 rfl rfl rfl rfl ?_
  refine ss_vlI (fun v3 => ?_)
  refine r_iconst 37 0 dX11_input_36 rfl rfl ?_
  refine r_istore 39 [(4, aI 0), (3, aI v3), (2, aI z1), (0, aR 180), (1, aI x1)] dX11_input_37 rfl rfl rfl ?_
  refine r_to [3, 4, 2, 1, 0] [(0, aR 180), (1, aI x1), (2, aI z1), (3, aI v3), (4, aI 0)] rfl ?_
  exact sl_Bd_input_39 P W x1 z1 v3 0 G2
theorem c_Bd_input (P W : Int) (x1 : Int) (G : St) : MG (MBd_input P W) [aR 180, aI x1] G (Bd_input P W x1 G) := MG.of plX11 (Nat.le_of_ble_eq_true rfl) (s_Bd_input P W x1 G)
theorem s_Bd_loop_b60 (P W : Int) (x1 : Int) (x2 : Int) (x4 : Int) (G : St) : SS (MBd_loop P W) some 60 [(0, aR 180), (1, aI x1), (2, aL x2), (4, aL x4)] [] G (Bd_loop_b60 P W x1 x2 x4 G) := by
  refine r_aload_n 61 0 dX11_loop_60 rfl rfl rfl ?_
  refine r_get 64 (aR 110) dX11_loop_61 fkX11_64 (fun _ => dsC_180 P W _) nn180 rfl rfl ?_
  refine r_get 67 (aR 112) dX11_loop_64 fkX11_245 (fun _ => dsC_110 P W _) nn110 rfl rfl ?_
  refine r_iload_n 68 1 dX11_loop_67 rfl rfl rfl ?_
  refine r_iald 69 dX11_loop_68 (fun _ _ _ => dsC_112 P W _) (fun _ _ => nn112) rfl ?_
  refine r_istore 71 [(6, aI (G 112 x1)), (0, aR 180), (1, aI x1), (2, aL x2), (4, aL x4)] dX11_loop_69 rfl rfl rfl ?_
  refine r_aload_n 72 1 dX11_loop_71 rfl rfl rfl ?_
  refine r_get 75 (aR 198) dX11_loop_72 fkX11_41 (fun _ => dsC_180 P W _) nn180 rfl rfl ?_
  refine r_iload 77 0 dX11_loop_75 rfl rfl ?_
  refine r_lload_n 78 3 dX11_loop_77 rfl rfl rfl ?_
  refine r_last 79 dX11_loop_78 (fun _ _ _ => dsC_198 P W _) (fun _ _ => nn198) rfl ?_
  refine ss_tk (fun G10 => ?_)
  refine r_aload_n 80 1 dX11_loop_79 rfl rfl rfl ?_
  refine r_get 83 (aR 199) dX11_loop_80 fkX11_45 (fun _ => dsC_180 P W _) nn180 rfl rfl ?_
  refine r_iload 85 0 dX11_loop_83 rfl rfl ?_
  refine r_lload 87 4 dX11_loop_85 rfl rfl ?_
  refine r_last 88 dX11_loop_87 (fun _ _ _ => dsC_199 P W _) (fun _ _ => nn199) rfl ?_
  refine ss_tk (fun G11 => ?_)
  refine r_lload_n 89 3 dX11_loop_88 rfl rfl rfl ?_
  refine r_lload 91 4 dX11_loop_89 rfl rfl ?_
  refine r_lif_le 92 110 95 dX11_loop_91 rfl dX11_loop_92 rfl rfl ?_ ?_
  · exact r_return dX11_loop_110 rfl
  · refine r_aload_n 96 1 dX11_loop_95 rfl rfl rfl ?_
    refine r_aload_n 97 1 dX11_loop_96 rfl rfl rfl ?_
    refine r_get 100 (aR 110) dX11_loop_97 fkX11_64 (fun _ => dsC_180 P W _) nn180 rfl rfl ?_
    refine r_get 103 (aR 114) dX11_loop_100 fkX11_200 (fun _ => dsC_110 P W _) nn110 rfl rfl ?_
    refine r_iload_n 104 2 dX11_loop_103 rfl rfl rfl ?_
    refine r_iald 105 dX11_loop_104 (fun _ _ _ => dsC_114 P W _) (fun _ _ => nn114) rfl ?_
    refine r_iconst 106 1 dX11_loop_105 rfl rfl ?_
    refine r_iadd 107 dX11_loop_106 rfl ?_
    refine r_putI 110 dX11_loop_107 fkX11_136 (fun _ => dsC_180 P W _) nn180 rfl rfl ?_
    refine ss_tk (fun G12 => ?_)
    exact r_return dX11_loop_110 rfl
theorem s_Bd_loop (P W : Int) (x1 : Int) (G : St) : SS (MBd_loop P W) some 0 [(0, aR 180), (1, aI x1)] [] G (Bd_loop P W x1 G) := by
  refine r_aload_n 1 0 dX11_loop_0 rfl rfl rfl ?_
  refine r_aload_n 2 0 dX11_loop_1 rfl rfl rfl ?_
  refine r_iconst 3 2 dX11_loop_2 rfl rfl ?_
  refine r_callvI 6 (Mc := MBd_place P W) (o := 180) (as := [aI 2]) (st := [aR 180]) dX11_loop_3 rfl (c_Bd_place P W 2 G) lkX11_218 (cmBd_place P W) rfl rfl rfl (fun _ => dsC_180 P W _) nn180 rfl (Nat.le_of_ble_eq_true rfl) (Nat.le_of_ble_eq_true rfl) (fun _ => rfl) rfl (fun z1 G2 => ?_)
  refine r_callvL 9 (Mc := MBd_valueOf P W) (o := 180) (as := [aI z1]) (st := []) dX11_loop_6 rfl (c_Bd_valueOf P W z1 G2) lkX11_222 (cmBd_valueOf P W) rfl rfl rfl (fun _ => dsC_180 P W _) nn180 rfl (Nat.le_of_ble_eq_true rfl) (Nat.le_of_ble_eq_true rfl) (fun _ => rfl) rfl (fun z3 G4 => ?_)
  refine r_lstore_n 10 [(2, aL z3), (0, aR 180), (1, aI x1)] dX11_loop_9 rfl rfl rfl rfl ?_
  refine r_aload_n 11 1 dX11_loop_10 rfl rfl rfl ?_
  refine r_aload_n 12 1 dX11_loop_11 rfl rfl rfl ?_
  refine r_iconst 13 1 dX11_loop_12 rfl rfl ?_
  refine r_callvI 16 (Mc := MBd_place P W) (o := 180) (as := [aI 1]) (st := [aR 180]) dX11_loop_13 rfl (c_Bd_place P W 1 G4) lkX11_218 (cmBd_place P W) rfl rfl rfl (fun _ => dsC_180 P W _) nn180 rfl (Nat.le_of_ble_eq_true rfl) (Nat.le_of_ble_eq_true rfl) (fun _ => rfl) rfl (fun z5 G6 => ?_)
  refine r_callvL 19 (Mc := MBd_valueOf P W) (o := 180) (as := [aI z5]) (st := []) dX11_loop_16 rfl (c_Bd_valueOf P W z5 G6) lkX11_222 (cmBd_valueOf P W) rfl rfl rfl (fun _ => dsC_180 P W _) nn180 rfl (Nat.le_of_ble_eq_true rfl) (Nat.le_of_ble_eq_true rfl) (fun _ => rfl) rfl (fun z7 G8 => ?_)
  refine r_lstore 21 [(4, aL z7), (2, aL z3), (0, aR 180), (1, aI x1)] dX11_loop_19 rfl rfl rfl ?_
  refine r_aload_n 22 2 dX11_loop_21 rfl rfl rfl ?_
  refine r_dup 23 dX11_loop_22 rfl rfl ?_
  refine r_get 26 (aI (G8 180 6)) dX11_loop_23 fkX11_109 (fun _ => dsC_180 P W _) nn180 rfl rfl ?_
  refine r_iconst 27 2 dX11_loop_26 rfl rfl ?_
  refine r_isub 28 dX11_loop_27 rfl ?_
  refine r_putI 31 dX11_loop_28 fkX11_109 (fun _ => dsC_180 P W _) nn180 rfl rfl ?_
  refine ss_tk (fun G9 => ?_)
  refine r_lload 33 0 dX11_loop_31 rfl rfl ?_
  refine r_lload_n 34 1 dX11_loop_33 rfl rfl rfl ?_
  refine r_lsub 35 dX11_loop_34 rfl ?_
  refine r_ldc2 38 256 dX11_loop_35 q1615 (by decide) rfl rfl ?_
  refine r_lif_lt 39 60 42 dX11_loop_38 rfl dX11_loop_39 rfl rfl ?_ ?_
  · refine r_to [2, 3, 1, 0] [(0, aR 180), (1, aI x1), (2, aL z3), (4, aL z7)] rfl ?_
    exact s_Bd_loop_b60 P W x1 z3 z7 G9
  · refine r_aload_n 43 2 dX11_loop_42 rfl rfl rfl ?_
    refine r_get 46 (aR 130) dX11_loop_43 fkX11_68 (fun _ => dsC_180 P W _) nn180 rfl rfl ?_
    refine r_bipush 48 7 dX11_loop_46 rfl rfl ?_
    refine r_aload_n 49 2 dX11_loop_48 rfl rfl rfl ?_
    refine r_get 52 (aR 110) dX11_loop_49 fkX11_64 (fun _ => dsC_180 P W _) nn180 rfl rfl ?_
    refine r_get 55 (aR 113) dX11_loop_52 fkX11_206 (fun _ => dsC_110 P W _) nn110 rfl rfl ?_
    refine r_iload_n 56 3 dX11_loop_55 rfl rfl rfl ?_
    refine r_iald 57 dX11_loop_56 (fun _ _ _ => dsC_113 P W _) (fun _ _ => nn113) rfl ?_
    refine r_callvV 60 (Mc := MFt_set P W) (o := 130) (as := [aI 7, aI (G9 113 x1)]) (st := []) dX11_loop_57 rfl (c_Ft_set P W 7 (G9 113 x1) G9) lkX11_157 (cmFt_set P W) rfl rfl rfl (fun _ => dsC_130 P W _) nn130 rfl (Nat.le_of_ble_eq_true rfl) (Nat.le_of_ble_eq_true rfl) (fun _ => rfl) rfl (fun z13 G14 => ?_)
    refine r_to [2, 3, 1, 0] [(0, aR 180), (1, aI x1), (2, aL z3), (4, aL z7)] rfl ?_
    exact s_Bd_loop_b60 P W x1 z3 z7 G14
theorem c_Bd_loop (P W : Int) (x1 : Int) (G : St) : MG (MBd_loop P W) [aR 180, aI x1] G (Bd_loop P W x1 G) := MG.of plX11 (Nat.le_of_ble_eq_true rfl) (s_Bd_loop P W x1 G)
theorem s_Bd_merge_s40 (P W : Int) (X25 : Int × St → Option (Int × St)) (hX25 : ∀ s, So (MBd_merge P W) 25 [(0, aR 180), (1, aI (s.1))] [] s.2 (X25 s)) (x1 : Int) (X40 : Int × St → Option (Int × St)) (hX40 : ∀ s, So (MBd_merge P W) 40 [(0, aR 180), (1, aI x1), (2, aI (s.1))] [] s.2 (X40 s)) (x2 : Int) (G : St) : SS (MBd_merge P W) (lk X40 (lk X25 some)) 40 [(0, aR 180), (1, aI x1), (2, aI x2)] [] G (Bd_merge_s40 P W x1 x2 G) := by
  refine r_iload_n 41 2 dX11_merge_40 rfl rfl rfl ?_
  refine r_aload_n 42 0 dX11_merge_41 rfl rfl rfl ?_
  refine r_get 45 (aR 186) dX11_merge_42 fkX11_21 (fun _ => dsC_180 P W _) nn180 rfl rfl ?_
  refine r_iload_n 46 1 dX11_merge_45 rfl rfl rfl ?_
  refine r_iald 47 dX11_merge_46 (fun _ _ _ => dsC_186 P W _) (fun _ _ => nn186) rfl ?_
  refine r_icmp_ge 104 50 dX11_merge_47 rfl rfl ?_ ?_
  · refine SS.ex ?_
    refine r_iinc 107 [(1, aI (x1 + 1)), (0, aR 180), (2, aI x2)] 1 dX11_merge_104 rfl rfl rfl rfl ?_
    refine r_goto 25 dX11_merge_107 rfl ?_
    refine r_to [1, 0] [(0, aR 180), (1, aI (x1 + 1))] rfl ?_
    exact SS.back (hX25 (x1 + 1, G))
  · refine r_aload_n 51 0 dX11_merge_50 rfl rfl rfl ?_
    refine r_get 54 (aI W) dX11_merge_51 fkX11_60 (fun _ => dsC_180 P W _) nn180 rfl rfl ?_
    refine r_iload_n 55 1 dX11_merge_54 rfl rfl rfl ?_
    refine r_imul 56 dX11_merge_55 rfl ?_
    refine r_iload_n 57 2 dX11_merge_56 rfl rfl rfl ?_
    refine r_iadd 58 dX11_merge_57 rfl ?_
    refine r_istore_n 59 [(3, aI ((W * x1) + x2)), (0, aR 180), (1, aI x1), (2, aI x2)] dX11_merge_58 rfl rfl rfl rfl ?_
    refine r_aload_n 60 1 dX11_merge_59 rfl rfl rfl ?_
    refine r_get 63 (aR 185) dX11_merge_60 fkX11_88 (fun _ => dsC_180 P W _) nn180 rfl rfl ?_
    refine r_iload_n 64 0 dX11_merge_63 rfl rfl rfl ?_
    refine r_aload_n 65 1 dX11_merge_64 rfl rfl rfl ?_
    refine r_get 68 (aR 140) dX11_merge_65 fkX11_72 (fun _ => dsC_180 P W _) nn180 rfl rfl ?_
    refine r_aload_n 69 1 dX11_merge_68 rfl rfl rfl ?_
    refine r_get 72 (aR 187) dX11_merge_69 fkX11_24 (fun _ => dsC_180 P W _) nn180 rfl rfl ?_
    refine r_aload_n 73 1 dX11_merge_72 rfl rfl rfl ?_
    refine r_get 76 (aI (G 180 22)) dX11_merge_73 fkX11_124 (fun _ => dsC_180 P W _) nn180 rfl rfl ?_
    refine r_iald 77 dX11_merge_76 (fun _ _ _ => dsC_187 P W _) (fun _ _ => nn187) rfl ?_
    refine r_aload_n 78 1 dX11_merge_77 rfl rfl rfl ?_
    refine r_get 81 (aR 197) dX11_merge_78 fkX11_38 (fun _ => dsC_180 P W _) nn180 rfl rfl ?_
    refine r_aload_n 82 1 dX11_merge_81 rfl rfl rfl ?_
    refine r_get 85 (aI (G 180 22)) dX11_merge_82 fkX11_124 (fun _ => dsC_180 P W _) nn180 rfl rfl ?_
    refine r_aald7 86 dX11_merge_85 (fun _ _ _ => dsC_197 P W _) (fun _ _ => nn197) rfl ?_
    refine r_iload_n 87 0 dX11_merge_86 rfl rfl rfl ?_
    refine r_iald 88 dX11_merge_87 (fun h h0 h1 => ialC_c P W h (Int.lt_of_le_of_lt h0 h1)) (fun h0 h1 => ialC_n P W (Int.lt_of_le_of_lt h0 h1)) rfl ?_
    refine r_aload_n 89 1 dX11_merge_88 rfl rfl rfl ?_
    refine r_get 92 (aR 185) dX11_merge_89 fkX11_88 (fun _ => dsC_180 P W _) nn180 rfl rfl ?_
    refine r_iload_n 93 0 dX11_merge_92 rfl rfl rfl ?_
    refine r_iald 94 dX11_merge_93 (fun _ _ _ => dsC_185 P W _) (fun _ _ => nn185) rfl ?_
    refine r_callvI 97 (Mc := MCi_mux P W) (o := 140) (as := [aI (G 187 (G 180 22)), aI (G (G 197 (G 180 22)) ((W * x1) + x2)), aI (G 185 ((W * x1) + x2))]) (st := [aI ((W * x1) + x2), aR 185]) dX11_merge_94 rfl (c_Ci_mux P W (G 187 (G 180 22)) (G (G 197 (G 180 22)) ((W * x1) + x2)) (G 185 ((W * x1) + x2)) G) lkX11_260 (cmCi_mux P W) rfl rfl rfl (fun _ => dsC_140 P W _) nn140 rfl (Nat.le_of_ble_eq_true rfl) (Nat.le_of_ble_eq_true rfl) (fun _ => rfl) rfl (fun z3 G4 => ?_)
    refine r_iast 98 dX11_merge_97 (fun _ _ _ => dsC_185 P W _) (fun _ _ => nn185) rfl ?_
    refine ss_tk (fun G5 => ?_)
    refine r_iinc 101 [(2, aI (x2 + 1)), (3, aI ((W * x1) + x2)), (0, aR 180), (1, aI x1)] 3 dX11_merge_98 rfl rfl rfl rfl ?_
    refine r_goto 40 dX11_merge_101 rfl ?_
    refine r_to [2, 3, 0] [(0, aR 180), (1, aI x1), (2, aI (x2 + 1))] rfl ?_
    exact SS.back (hX40 (x2 + 1, G5))
theorem sl_Bd_merge_40 (P W : Int) (X25 : Int × St → Option (Int × St)) (hX25 : ∀ s, So (MBd_merge P W) 25 [(0, aR 180), (1, aI (s.1))] [] s.2 (X25 s)) (x1 : Int) (x2 : Int) (G : St) : SS (MBd_merge P W) (lk X25 some) 40 [(0, aR 180), (1, aI x1), (2, aI x2)] [] G (Bd_merge_l40 P W x1 x2 G) := by
  exact SS.loop (σ := Int × St) (fun s => [(0, aR 180), (1, aI x1), (2, aI (s.1))]) (fun s => s.2) (fun s => Bd_merge_s40 P W x1 s.1 s.2) (fun X40 hX40 s => s_Bd_merge_s40 P W X25 hX25 x1  X40 hX40 s.1 s.2) (x2, G)
theorem s_Bd_merge_s25 (P W : Int) (X25 : Int × St → Option (Int × St)) (hX25 : ∀ s, So (MBd_merge P W) 25 [(0, aR 180), (1, aI (s.1))] [] s.2 (X25 s)) (x1 : Int) (G : St) : SS (MBd_merge P W) (lk X25 some) 25 [(0, aR 180), (1, aI x1)] [] G (Bd_merge_s25 P W x1 G) := by
  refine r_iload_n 26 1 dX11_merge_25 rfl rfl rfl ?_
  refine r_aload_n 27 0 dX11_merge_26 rfl rfl rfl ?_
  refine r_get 30 (aR 188) dX11_merge_27 fkX11_27 (fun _ => dsC_180 P W _) nn180 rfl rfl ?_
  refine r_aload_n 31 0 dX11_merge_30 rfl rfl rfl ?_
  refine r_get 34 (aI (G 180 22)) dX11_merge_31 fkX11_124 (fun _ => dsC_180 P W _) nn180 rfl rfl ?_
  refine r_iald 35 dX11_merge_34 (fun _ _ _ => dsC_188 P W _) (fun _ _ => nn188) rfl ?_
  refine r_icmp_ge 110 38 dX11_merge_35 rfl rfl ?_ ?_
  · refine SS.ex ?_
    exact r_return dX11_merge_110 rfl
  · refine r_iconst 39 0 dX11_merge_38 rfl rfl ?_
    refine r_istore_n 40 [(2, aI 0), (0, aR 180), (1, aI x1)] dX11_merge_39 rfl rfl rfl rfl ?_
    refine r_to [1, 2, 0] [(0, aR 180), (1, aI x1), (2, aI 0)] rfl ?_
    exact sl_Bd_merge_40 P W X25 hX25 x1 0 G
theorem sl_Bd_merge_25 (P W : Int) (x1 : Int) (G : St) : SS (MBd_merge P W) some 25 [(0, aR 180), (1, aI x1)] [] G (Bd_merge_l25 P W x1 G) := by
  exact SS.loop (σ := Int × St) (fun s => [(0, aR 180), (1, aI (s.1))]) (fun s => s.2) (fun s => Bd_merge_s25 P W s.1 s.2) (fun X25 hX25 s => s_Bd_merge_s25 P W   X25 hX25 s.1 s.2) (x1, G)
theorem s_Bd_merge (P W : Int) (G : St) : SS (MBd_merge P W) some 0 [(0, aR 180)] [] G (Bd_merge P W G) := by
  refine r_aload_n 1 0 dX11_merge_0 rfl rfl rfl ?_
  refine r_dup 2 dX11_merge_1 rfl rfl ?_
  refine r_get 5 (aI (G 180 22)) dX11_merge_2 fkX11_124 (fun _ => dsC_180 P W _) nn180 rfl rfl ?_
  refine r_iconst 6 1 dX11_merge_5 rfl rfl ?_
  refine r_isub 7 dX11_merge_6 rfl ?_
  refine r_putI 10 dX11_merge_7 fkX11_124 (fun _ => dsC_180 P W _) nn180 rfl rfl ?_
  refine ss_tk (fun G1 => ?_)
  refine r_aload_n 11 0 dX11_merge_10 rfl rfl rfl ?_
  refine r_aload_n 12 0 dX11_merge_11 rfl rfl rfl ?_
  refine r_get 15 (aR 189) dX11_merge_12 fkX11_30 (fun _ => dsC_180 P W _) nn180 rfl rfl ?_
  refine r_aload_n 16 0 dX11_merge_15 rfl rfl rfl ?_
  refine r_get 19 (aI (G1 180 22)) dX11_merge_16 fkX11_124 (fun _ => dsC_180 P W _) nn180 rfl rfl ?_
  refine r_iald 20 dX11_merge_19 (fun _ _ _ => dsC_189 P W _) (fun _ _ => nn189) rfl ?_
  refine r_putI 23 dX11_merge_20 fkX11_115 (fun _ => dsC_180 P W _) nn180 rfl rfl ?_
  refine ss_tk (fun G2 => ?_)
  refine r_iconst 24 0 dX11_merge_23 rfl rfl ?_
  refine r_istore_n 25 [(1, aI 0), (0, aR 180)] dX11_merge_24 rfl rfl rfl rfl ?_
  refine r_to [1, 0] [(0, aR 180), (1, aI 0)] rfl ?_
  exact sl_Bd_merge_25 P W 0 G2
theorem c_Bd_merge (P W : Int) (G : St) : MG (MBd_merge P W) [aR 180] G (Bd_merge P W G) := MG.of plX11 (Nat.le_of_ble_eq_true rfl) (s_Bd_merge P W G)
theorem s_Bd_open_b119 (P W : Int) (G : St) : SS (MBd_open P W) some 119 [(0, aR 180)] [] G (Bd_open_b119 P W G) := by
  refine r_aload_n 120 0 dX11_open_119 rfl rfl rfl ?_
  refine r_get 123 (aR 185) dX11_open_120 fkX11_88 (fun _ => dsC_180 P W _) nn180 rfl rfl ?_
  refine r_iconst 124 0 dX11_open_123 rfl rfl ?_
  refine r_aload_n 125 0 dX11_open_124 rfl rfl rfl ?_
  refine r_get 128 (aR 196) dX11_open_125 fkX11_34 (fun _ => dsC_180 P W _) nn180 rfl rfl ?_
  refine r_aload_n 129 0 dX11_open_128 rfl rfl rfl ?_
  refine r_get 132 (aI (G 180 22)) dX11_open_129 fkX11_124 (fun _ => dsC_180 P W _) nn180 rfl rfl ?_
  refine r_aald7 133 dX11_open_132 (fun _ _ _ => dsC_196 P W _) (fun _ _ => nn196) rfl ?_
  refine r_iconst 134 0 dX11_open_133 rfl rfl ?_
  refine r_aload_n 135 0 dX11_open_134 rfl rfl rfl ?_
  refine r_get 138 (aI W) dX11_open_135 fkX11_60 (fun _ => dsC_180 P W _) nn180 rfl rfl ?_
  refine r_aload_n 139 0 dX11_open_138 rfl rfl rfl ?_
  refine r_get 142 (aR 188) dX11_open_139 fkX11_27 (fun _ => dsC_180 P W _) nn180 rfl rfl ?_
  refine r_aload_n 143 0 dX11_open_142 rfl rfl rfl ?_
  refine r_get 146 (aI (G 180 22)) dX11_open_143 fkX11_124 (fun _ => dsC_180 P W _) nn180 rfl rfl ?_
  refine r_iald 147 dX11_open_146 (fun _ _ _ => dsC_188 P W _) (fun _ _ => nn188) rfl ?_
  refine r_imul 148 dX11_open_147 rfl ?_
  refine r_acopy 151 0 dX11_open_148 q1475 (Or.inl rfl) (fun _ _ => dsC_185 P W _) (fun _ => nn185) (fun h h0 => ialC_c0 P W h h0) (fun h0 => ialC_n0 P W h0) (Nat.le_of_ble_eq_true rfl) (Nat.le_of_ble_eq_true rfl) rfl rfl ?_
  refine ss_tk (fun G5 => ?_)
  refine r_aload_n 152 0 dX11_open_151 rfl rfl rfl ?_
  refine r_dup 153 dX11_open_152 rfl rfl ?_
  refine r_get 156 (aI (G5 180 22)) dX11_open_153 fkX11_124 (fun _ => dsC_180 P W _) nn180 rfl rfl ?_
  refine r_iconst 157 1 dX11_open_156 rfl rfl ?_
  refine r_iadd 158 dX11_open_157 rfl ?_
  refine r_putI 161 dX11_open_158 fkX11_124 (fun _ => dsC_180 P W _) nn180 rfl rfl ?_
  refine ss_tk (fun G6 => ?_)
  exact r_return dX11_open_161 rfl
theorem s_Bd_open (P W : Int) (x1 : Int) (G : St) : SS (MBd_open P W) some 0 [(0, aR 180), (1, aI x1)] [] G (Bd_open P W x1 G) := by
  refine r_aload_n 1 0 dX11_open_0 rfl rfl rfl ?_
  refine r_dup 2 dX11_open_1 rfl rfl ?_
  refine r_get 5 (aI (G 180 6)) dX11_open_2 fkX11_109 (fun _ => dsC_180 P W _) nn180 rfl rfl ?_
  refine r_iconst 6 1 dX11_open_5 rfl rfl ?_
  refine r_isub 7 dX11_open_6 rfl ?_
  refine r_putI 10 dX11_open_7 fkX11_109 (fun _ => dsC_180 P W _) nn180 rfl rfl ?_
  refine ss_tk (fun G1 => ?_)
  refine r_aload_n 11 0 dX11_open_10 rfl rfl rfl ?_
  refine r_get 14 (aR 187) dX11_open_11 fkX11_24 (fun _ => dsC_180 P W _) nn180 rfl rfl ?_
  refine r_aload_n 15 0 dX11_open_14 rfl rfl rfl ?_
  refine r_get 18 (aI (G1 180 22)) dX11_open_15 fkX11_124 (fun _ => dsC_180 P W _) nn180 rfl rfl ?_
  refine r_aload_n 19 0 dX11_open_18 rfl rfl rfl ?_
  refine r_get 22 (aR 181) dX11_open_19 fkX11_85 (fun _ => dsC_180 P W _) nn180 rfl rfl ?_
  refine r_aload_n 23 0 dX11_open_22 rfl rfl rfl ?_
  refine r_get 26 (aI W) dX11_open_23 fkX11_60 (fun _ => dsC_180 P W _) nn180 rfl rfl ?_
  refine r_aload_n 27 0 dX11_open_26 rfl rfl rfl ?_
  refine r_get 30 (aI (G1 180 6)) dX11_open_27 fkX11_109 (fun _ => dsC_180 P W _) nn180 rfl rfl ?_
  refine r_imul 31 dX11_open_30 rfl ?_
  refine r_iald 32 dX11_open_31 (fun _ _ _ => dsC_181 P W _) (fun _ _ => nn181) rfl ?_
  refine r_iast 33 dX11_open_32 (fun _ _ _ => dsC_187 P W _) (fun _ _ => nn187) rfl ?_
  refine ss_tk (fun G2 => ?_)
  refine r_aload_n 34 0 dX11_open_33 rfl rfl rfl ?_
  refine r_get 37 (aR 188) dX11_open_34 fkX11_27 (fun _ => dsC_180 P W _) nn180 rfl rfl ?_
  refine r_aload_n 38 0 dX11_open_37 rfl rfl rfl ?_
  refine r_get 41 (aI (G2 180 22)) dX11_open_38 fkX11_124 (fun _ => dsC_180 P W _) nn180 rfl rfl ?_
  refine r_aload_n 42 0 dX11_open_41 rfl rfl rfl ?_
  refine r_get 45 (aR 110) dX11_open_42 fkX11_64 (fun _ => dsC_180 P W _) nn180 rfl rfl ?_
  refine r_get 48 (aR 112) dX11_open_45 fkX11_245 (fun _ => dsC_110 P W _) nn110 rfl rfl ?_
  refine r_iload_n 49 1 dX11_open_48 rfl rfl rfl ?_
  refine r_iald 50 dX11_open_49 (fun _ _ _ => dsC_112 P W _) (fun _ _ => nn112) rfl ?_
  refine r_iast 51 dX11_open_50 (fun _ _ _ => dsC_188 P W _) (fun _ _ => nn188) rfl ?_
  refine ss_tk (fun G3 => ?_)
  refine r_aload_n 52 0 dX11_open_51 rfl rfl rfl ?_
  refine r_get 55 (aR 189) dX11_open_52 fkX11_30 (fun _ => dsC_180 P W _) nn180 rfl rfl ?_
  refine r_aload_n 56 0 dX11_open_55 rfl rfl rfl ?_
  refine r_get 59 (aI (G3 180 22)) dX11_open_56 fkX11_124 (fun _ => dsC_180 P W _) nn180 rfl rfl ?_
  refine r_aload_n 60 0 dX11_open_59 rfl rfl rfl ?_
  refine r_get 63 (aR 110) dX11_open_60 fkX11_64 (fun _ => dsC_180 P W _) nn180 rfl rfl ?_
  refine r_get 66 (aR 113) dX11_open_63 fkX11_206 (fun _ => dsC_110 P W _) nn110 rfl rfl ?_
  refine r_iload_n 67 1 dX11_open_66 rfl rfl rfl ?_
  refine r_iald 68 dX11_open_67 (fun _ _ _ => dsC_113 P W _) (fun _ _ => nn113) rfl ?_
  refine r_iast 69 dX11_open_68 (fun _ _ _ => dsC_189 P W _) (fun _ _ => nn189) rfl ?_
  refine ss_tk (fun G4 => ?_)
  refine r_aload_n 70 0 dX11_open_69 rfl rfl rfl ?_
  refine r_get 73 (aR 196) dX11_open_70 fkX11_34 (fun _ => dsC_180 P W _) nn180 rfl rfl ?_
  refine r_aload_n 74 0 dX11_open_73 rfl rfl rfl ?_
  refine r_get 77 (aI (G4 180 22)) dX11_open_74 fkX11_124 (fun _ => dsC_180 P W _) nn180 rfl rfl ?_
  refine r_aald7 78 dX11_open_77 (fun _ _ _ => dsC_196 P W _) (fun _ _ => nn196) rfl ?_
  refine r_nonnull 119 81 dX11_open_78 rfl rfl ?_ ?_
  · refine r_to [0] [(0, aR 180)] rfl ?_
    exact s_Bd_open_b119 P W G4
  · refine r_aload_n 82 0 dX11_open_81 rfl rfl rfl ?_
    refine r_get 85 (aR 196) dX11_open_82 fkX11_34 (fun _ => dsC_180 P W _) nn180 rfl rfl ?_
    refine r_aload_n 86 0 dX11_open_85 rfl rfl rfl ?_
    refine r_get 89 (aI (G4 180 22)) dX11_open_86 fkX11_124 (fun _ => dsC_180 P W _) nn180 rfl rfl ?_
    refine r_aload_n 90 0 dX11_open_89 rfl rfl rfl ?_
    refine r_get 93 (aI W) dX11_open_90 fkX11_60 (fun _ => dsC_180 P W _) nn180 rfl rfl ?_
    refine r_sipush 96 256 dX11_open_93 rfl rfl ?_
    refine r_imul 97 dX11_open_96 rfl ?_
    refine r_newai 99 P W rfl dX11_open_97 rfl ?_
    refine ss_tk (fun G7 => ?_)
    refine r_aast7 100 P W rfl dX11_open_99 (fun _ _ _ => dsC_196 P W _) (fun _ _ => nn196) rfl ?_
    refine ss_tk (fun G8 => ?_)
    refine r_aload_n 101 0 dX11_open_100 rfl rfl rfl ?_
    refine r_get 104 (aR 197) dX11_open_101 fkX11_38 (fun _ => dsC_180 P W _) nn180 rfl rfl ?_
    refine r_aload_n 105 0 dX11_open_104 rfl rfl rfl ?_
    refine r_get 108 (aI (G8 180 22)) dX11_open_105 fkX11_124 (fun _ => dsC_180 P W _) nn180 rfl rfl ?_
    refine r_aload_n 109 0 dX11_open_108 rfl rfl rfl ?_
    refine r_get 112 (aI W) dX11_open_109 fkX11_60 (fun _ => dsC_180 P W _) nn180 rfl rfl ?_
    refine r_sipush 115 256 dX11_open_112 rfl rfl ?_
    refine r_imul 116 dX11_open_115 rfl ?_
    refine r_newai 118 P W rfl dX11_open_116 rfl ?_
    refine ss_tk (fun G9 => ?_)
    refine r_aast7 119 P W rfl dX11_open_118 (fun _ _ _ => dsC_197 P W _) (fun _ _ => nn197) rfl ?_
    refine ss_tk (fun G10 => ?_)
    refine r_to [0] [(0, aR 180)] rfl ?_
    exact s_Bd_open_b119 P W G10
theorem c_Bd_open (P W : Int) (x1 : Int) (G : St) : MG (MBd_open P W) [aR 180, aI x1] G (Bd_open P W x1 G) := MG.of plX11 (Nat.le_of_ble_eq_true rfl) (s_Bd_open P W x1 G)
theorem s_Bd_output (P W : Int) (x1 : Int) (G : St) : SS (MBd_output P W) some 0 [(0, aR 180), (1, aI x1)] [] G (Bd_output P W x1 G) := by
  refine r_aload_n 1 0 dX11_output_0 rfl rfl rfl ?_
  refine r_iload_n 2 1 dX11_output_1 rfl rfl rfl ?_
  refine r_callvI 5 (Mc := MBd_bits P W) (o := 180) (as := [aI x1]) (st := []) dX11_output_2 rfl (c_Bd_bits P W x1 G) lkX11_248 (cmBd_bits P W) rfl rfl rfl (fun _ => dsC_180 P W _) nn180 rfl (Nat.le_of_ble_eq_true rfl) (Nat.le_of_ble_eq_true rfl) (fun _ => rfl) rfl (fun z1 G2 => ?_)
  refine r_istore_n 6 [(2, aI z1), (0, aR 180), (1, aI x1)] dX11_output_5 rfl rfl rfl rfl ?_
  refine r_aload_n 7 1 dX11_output_6 rfl rfl rfl ?_
  refine r_dup 8 dX11_output_7 rfl rfl ?_
  refine r_get 11 (aI (G2 180 6)) dX11_output_8 fkX11_109 (fun _ => dsC_180 P W _) nn180 rfl rfl ?_
  refine r_iconst 12 1 dX11_output_11 rfl rfl ?_
  refine r_isub 13 dX11_output_12 rfl ?_
  refine r_putI 16 dX11_output_13 fkX11_109 (fun _ => dsC_180 P W _) nn180 rfl rfl ?_
  refine ss_tk (fun G3 => ?_)
  refine r_aload_n 17 1 dX11_output_16 rfl rfl rfl ?_
  refine r_get 20 (aR 181) dX11_output_17 fkX11_85 (fun _ => dsC_180 P W _) nn180 rfl rfl ?_
  refine r_aload_n 21 1 dX11_output_20 rfl rfl rfl ?_
  refine r_get 24 (aI W) dX11_output_21 fkX11_60 (fun _ => dsC_180 P W _) nn180 rfl rfl ?_
  refine r_aload_n 25 1 dX11_output_24 rfl rfl rfl ?_
  refine r_get 28 (aI (G3 180 6)) dX11_output_25 fkX11_109 (fun _ => dsC_180 P W _) nn180 rfl rfl ?_
  refine r_imul 29 dX11_output_28 rfl ?_
  refine r_aload_n 30 1 dX11_output_29 rfl rfl rfl ?_
  refine r_get 33 (aR 203) dX11_output_30 fkX11_91 (fun _ => dsC_180 P W _) nn180 rfl rfl ?_
  refine r_aload_n 34 1 dX11_output_33 rfl rfl rfl ?_
  refine r_get 37 (aI W) dX11_output_34 fkX11_60 (fun _ => dsC_180 P W _) nn180 rfl rfl ?_
  refine r_aload_n 38 1 dX11_output_37 rfl rfl rfl ?_
  refine r_get 41 (aI (G3 180 32)) dX11_output_38 fkX11_133 (fun _ => dsC_180 P W _) nn180 rfl rfl ?_
  refine r_imul 42 dX11_output_41 rfl ?_
  refine r_iload_n 43 0 dX11_output_42 rfl rfl rfl ?_
  refine r_acopy 46 0 dX11_output_43 q1475 (Or.inl rfl) (fun _ _ => dsC_181 P W _) (fun _ => nn181) (fun _ _ => dsC_203 P W _) (fun _ => nn203) (Nat.le_of_ble_eq_true rfl) (Nat.le_of_ble_eq_true rfl) rfl rfl ?_
  refine ss_tk (fun G4 => ?_)
  refine r_aload_n 47 1 dX11_output_46 rfl rfl rfl ?_
  refine r_get 50 (aR 204) dX11_output_47 fkX11_57 (fun _ => dsC_180 P W _) nn180 rfl rfl ?_
  refine r_aload_n 51 1 dX11_output_50 rfl rfl rfl ?_
  refine r_get 54 (aI (G4 180 32)) dX11_output_51 fkX11_133 (fun _ => dsC_180 P W _) nn180 rfl rfl ?_
  refine r_iload_n 55 0 dX11_output_54 rfl rfl rfl ?_
  refine r_iast 56 dX11_output_55 (fun _ _ _ => dsC_204 P W _) (fun _ _ => nn204) rfl ?_
  refine ss_tk (fun G5 => ?_)
  refine r_aload_n 57 1 dX11_output_56 rfl rfl rfl ?_
  refine r_dup 58 dX11_output_57 rfl rfl ?_
  refine r_get 61 (aI (G5 180 32)) dX11_output_58 fkX11_133 (fun _ => dsC_180 P W _) nn180 rfl rfl ?_
  refine r_iconst 62 1 dX11_output_61 rfl rfl ?_
  refine r_iadd 63 dX11_output_62 rfl ?_
  refine r_putI 66 dX11_output_63 fkX11_133 (fun _ => dsC_180 P W _) nn180 rfl rfl ?_
  refine ss_tk (fun G6 => ?_)
  exact r_return dX11_output_66 rfl
theorem c_Bd_output (P W : Int) (x1 : Int) (G : St) : MG (MBd_output P W) [aR 180, aI x1] G (Bd_output P W x1 G) := MG.of plX11 (Nat.le_of_ble_eq_true rfl) (s_Bd_output P W x1 G)
theorem s_Bd_turnOver (P W : Int) (G : St) : SS (MBd_turnOver P W) some 0 [(0, aR 180)] [] G (Bd_turnOver P W G) := by
  refine r_aload_n 1 0 dX11_turnOver_0 rfl rfl rfl ?_
  refine r_get 4 (aI W) dX11_turnOver_1 fkX11_60 (fun _ => dsC_180 P W _) nn180 rfl rfl ?_
  refine r_aload_n 5 0 dX11_turnOver_4 rfl rfl rfl ?_
  refine r_get 8 (aR 188) dX11_turnOver_5 fkX11_27 (fun _ => dsC_180 P W _) nn180 rfl rfl ?_
  refine r_aload_n 9 0 dX11_turnOver_8 rfl rfl rfl ?_
  refine r_get 12 (aI (G 180 22)) dX11_turnOver_9 fkX11_124 (fun _ => dsC_180 P W _) nn180 rfl rfl ?_
  refine r_iconst 13 1 dX11_turnOver_12 rfl rfl ?_
  refine r_isub 14 dX11_turnOver_13 rfl ?_
  refine r_iald 15 dX11_turnOver_14 (fun _ _ _ => dsC_188 P W _) (fun _ _ => nn188) rfl ?_
  refine r_imul 16 dX11_turnOver_15 rfl ?_
  refine r_istore_n 17 [(1, aI (W * (G 188 ((G 180 22) - 1)))), (0, aR 180)] dX11_turnOver_16 rfl rfl rfl rfl ?_
  refine r_aload_n 18 1 dX11_turnOver_17 rfl rfl rfl ?_
  refine r_get 21 (aR 185) dX11_turnOver_18 fkX11_88 (fun _ => dsC_180 P W _) nn180 rfl rfl ?_
  refine r_iconst 22 0 dX11_turnOver_21 rfl rfl ?_
  refine r_aload_n 23 1 dX11_turnOver_22 rfl rfl rfl ?_
  refine r_get 26 (aR 197) dX11_turnOver_23 fkX11_38 (fun _ => dsC_180 P W _) nn180 rfl rfl ?_
  refine r_aload_n 27 1 dX11_turnOver_26 rfl rfl rfl ?_
  refine r_get 30 (aI (G 180 22)) dX11_turnOver_27 fkX11_124 (fun _ => dsC_180 P W _) nn180 rfl rfl ?_
  refine r_iconst 31 1 dX11_turnOver_30 rfl rfl ?_
  refine r_isub 32 dX11_turnOver_31 rfl ?_
  refine r_aald7 33 dX11_turnOver_32 (fun _ _ _ => dsC_197 P W _) (fun _ _ => nn197) rfl ?_
  refine r_iconst 34 0 dX11_turnOver_33 rfl rfl ?_
  refine r_iload_n 35 0 dX11_turnOver_34 rfl rfl rfl ?_
  refine r_acopy 38 0 dX11_turnOver_35 q1475 (Or.inl rfl) (fun _ _ => dsC_185 P W _) (fun _ => nn185) (fun h h0 => ialC_c0 P W h h0) (fun h0 => ialC_n0 P W h0) (Nat.le_of_ble_eq_true rfl) (Nat.le_of_ble_eq_true rfl) rfl rfl ?_
  refine ss_tk (fun G1 => ?_)
  refine r_aload_n 39 1 dX11_turnOver_38 rfl rfl rfl ?_
  refine r_get 42 (aR 196) dX11_turnOver_39 fkX11_34 (fun _ => dsC_180 P W _) nn180 rfl rfl ?_
  refine r_aload_n 43 1 dX11_turnOver_42 rfl rfl rfl ?_
  refine r_get 46 (aI (G1 180 22)) dX11_turnOver_43 fkX11_124 (fun _ => dsC_180 P W _) nn180 rfl rfl ?_
  refine r_iconst 47 1 dX11_turnOver_46 rfl rfl ?_
  refine r_isub 48 dX11_turnOver_47 rfl ?_
  refine r_aald7 49 dX11_turnOver_48 (fun _ _ _ => dsC_196 P W _) (fun _ _ => nn196) rfl ?_
  refine r_iconst 50 0 dX11_turnOver_49 rfl rfl ?_
  refine r_aload_n 51 1 dX11_turnOver_50 rfl rfl rfl ?_
  refine r_get 54 (aR 185) dX11_turnOver_51 fkX11_88 (fun _ => dsC_180 P W _) nn180 rfl rfl ?_
  refine r_iconst 55 0 dX11_turnOver_54 rfl rfl ?_
  refine r_iload_n 56 0 dX11_turnOver_55 rfl rfl rfl ?_
  refine r_acopy 59 0 dX11_turnOver_56 q1475 (Or.inl rfl) (fun h h0 => ialC_c0 P W h h0) (fun h0 => ialC_n0 P W h0) (fun _ _ => dsC_185 P W _) (fun _ => nn185) (Nat.le_of_ble_eq_true rfl) (Nat.le_of_ble_eq_true rfl) rfl rfl ?_
  refine ss_tk (fun G2 => ?_)
  exact r_return dX11_turnOver_59 rfl
theorem c_Bd_turnOver (P W : Int) (G : St) : MG (MBd_turnOver P W) [aR 180] G (Bd_turnOver P W G) := MG.of plX11 (Nat.le_of_ble_eq_true rfl) (s_Bd_turnOver P W G)
theorem s_Bd_variable_b132 (P W : Int) (x1 : Int) (x2 : Int) (x3 : Int) (x4 : Int) (X70 : Int × St → Option (Int × St)) (hX70 : ∀ s, So (MBd_variable P W) 70 [(0, aR 180), (1, aI x1), (2, aI x2), (3, aI x3), (4, aI x4), (5, aI (s.1))] [] s.2 (X70 s)) (x5 : Int) (x6 : Int) (s0 : Int) (s1 : Int) (G : St) : SS (MBd_variable P W) (lk X70 some) 132 [(0, aR 180), (1, aI x1), (2, aI x2), (3, aI x3), (4, aI x4), (5, aI x5), (6, aI x6)] [aI s0, aR s1] G (Bd_variable_b132 P W x1 x2 x3 x4 x5 x6 s0 s1 G) := by
  refine r_aload_n 133 0 dX11_variable_132 rfl rfl rfl ?_
  refine r_get 136 (aR 185) dX11_variable_133 fkX11_88 (fun _ => dsC_180 P W _) nn180 rfl rfl ?_
  refine r_aload_n 137 0 dX11_variable_136 rfl rfl rfl ?_
  refine r_get 140 (aI W) dX11_variable_137 fkX11_60 (fun _ => dsC_180 P W _) nn180 rfl rfl ?_
  refine r_iload 142 6 dX11_variable_140 rfl rfl ?_
  refine r_imul 143 dX11_variable_142 rfl ?_
  refine r_iload_n 144 2 dX11_variable_143 rfl rfl rfl ?_
  refine r_acopy 147 0 dX11_variable_144 q1475 (Or.inl rfl) (fun h h0 => ialC_c0 P W h h0) (fun h0 => ialC_n0 P W h0) (fun _ _ => dsC_185 P W _) (fun _ => nn185) (Nat.le_of_ble_eq_true rfl) (Nat.le_of_ble_eq_true rfl) rfl rfl ?_
  refine ss_tk (fun G5 => ?_)
  refine r_iinc 150 [(5, aI (x5 + 1)), (0, aR 180), (1, aI x1), (2, aI x2), (3, aI x3), (4, aI x4), (6, aI x6)] 5 dX11_variable_147 rfl rfl rfl rfl ?_
  refine r_goto 70 dX11_variable_150 rfl ?_
  refine r_to [1, 2, 3, 4, 5, 0] [(0, aR 180), (1, aI x1), (2, aI x2), (3, aI x3), (4, aI x4), (5, aI (x5 + 1))] rfl ?_
  exact SS.back (hX70 (x5 + 1, G5))
theorem s_Bd_variable_b114 (P W : Int) (x1 : Int) (x2 : Int) (x3 : Int) (x4 : Int) (X70 : Int × St → Option (Int × St)) (hX70 : ∀ s, So (MBd_variable P W) 70 [(0, aR 180), (1, aI x1), (2, aI x2), (3, aI x3), (4, aI x4), (5, aI (s.1))] [] s.2 (X70 s)) (x5 : Int) (x6 : Int) (s0 : Int) (G : St) : SS (MBd_variable P W) (lk X70 some) 114 [(0, aR 180), (1, aI x1), (2, aI x2), (3, aI x3), (4, aI x4), (5, aI x5), (6, aI x6)] [aR s0] G (Bd_variable_b114 P W x1 x2 x3 x4 x5 x6 s0 G) := by
  refine r_iload 116 4 dX11_variable_114 rfl rfl ?_
  refine r_if_eq 131 119 dX11_variable_116 rfl rfl ?_ ?_
  · refine r_iconst 132 0 dX11_variable_131 rfl rfl ?_
    exact s_Bd_variable_b132 P W x1 x2 x3 x4 X70 hX70 x5 x6 0 s0 G
  · refine r_aload_n 120 0 dX11_variable_119 rfl rfl rfl ?_
    refine r_get 123 (aI W) dX11_variable_120 fkX11_60 (fun _ => dsC_180 P W _) nn180 rfl rfl ?_
    refine r_aload_n 124 0 dX11_variable_123 rfl rfl rfl ?_
    refine r_get 127 (aI (G 180 6)) dX11_variable_124 fkX11_109 (fun _ => dsC_180 P W _) nn180 rfl rfl ?_
    refine r_imul 128 dX11_variable_127 rfl ?_
    refine r_goto 132 dX11_variable_128 rfl ?_
    exact s_Bd_variable_b132 P W x1 x2 x3 x4 X70 hX70 x5 x6 (W * (G 180 6)) s0 G
theorem s_Bd_variable_s70 (P W : Int) (x1 : Int) (x2 : Int) (x3 : Int) (x4 : Int) (X70 : Int × St → Option (Int × St)) (hX70 : ∀ s, So (MBd_variable P W) 70 [(0, aR 180), (1, aI x1), (2, aI x2), (3, aI x3), (4, aI x4), (5, aI (s.1))] [] s.2 (X70 s)) (x5 : Int) (G : St) : SS (MBd_variable P W) (lk X70 some) 70 [(0, aR 180), (1, aI x1), (2, aI x2), (3, aI x3), (4, aI x4), (5, aI x5)] [] G (Bd_variable_s70 P W x1 x2 x3 x4 x5 G) := by
  refine r_iload 72 5 dX11_variable_70 rfl rfl ?_
  refine r_iload_n 73 3 dX11_variable_72 rfl rfl rfl ?_
  refine r_icmp_ge 153 76 dX11_variable_73 rfl rfl ?_ ?_
  · refine SS.ex ?_
    exact r_return dX11_variable_153 rfl
  · refine r_aload_n 77 0 dX11_variable_76 rfl rfl rfl ?_
    refine r_get 80 (aR 110) dX11_variable_77 fkX11_64 (fun _ => dsC_180 P W _) nn180 rfl rfl ?_
    refine r_get 83 (aR 112) dX11_variable_80 fkX11_245 (fun _ => dsC_110 P W _) nn110 rfl rfl ?_
    refine r_iload_n 84 1 dX11_variable_83 rfl rfl rfl ?_
    refine r_iald 85 dX11_variable_84 (fun _ _ _ => dsC_112 P W _) (fun _ _ => nn112) rfl ?_
    refine r_iload 87 5 dX11_variable_85 rfl rfl ?_
    refine r_iadd 88 dX11_variable_87 rfl ?_
    refine r_istore 90 [(6, aI ((G 112 x1) + x5)), (0, aR 180), (1, aI x1), (2, aI x2), (3, aI x3), (4, aI x4), (5, aI x5)] dX11_variable_88 rfl rfl rfl ?_
    refine r_aload_n 91 1 dX11_variable_90 rfl rfl rfl ?_
    refine r_get 94 (aR 186) dX11_variable_91 fkX11_21 (fun _ => dsC_180 P W _) nn180 rfl rfl ?_
    refine r_iload 96 0 dX11_variable_94 rfl rfl ?_
    refine r_iload_n 97 3 dX11_variable_96 rfl rfl rfl ?_
    refine r_iast 98 dX11_variable_97 (fun _ _ _ => dsC_186 P W _) (fun _ _ => nn186) rfl ?_
    refine ss_tk (fun G4 => ?_)
    refine r_iload 100 5 dX11_variable_98 rfl rfl ?_
    refine SS.phi (fun VV_ => Bd_variable_b114 P W x1 x2 x3 x4 x5 ((G 112 x1) + x5) VV_ G4) ?_
    refine r_if_eq 110 103 dX11_variable_100 rfl rfl ?_ ?_
    · refine r_aload_n 111 1 dX11_variable_110 rfl rfl rfl ?_
      refine r_get 114 (aR 206) dX11_variable_111 fkX11_97 (fun _ => dsC_180 P W _) nn180 rfl rfl ?_
      refine r_to [1, 2, 3, 4, 5, 6, 0] [(0, aR 180), (1, aI x1), (2, aI x2), (3, aI x3), (4, aI x4), (5, aI x5), (6, aI ((G 112 x1) + x5))] rfl ?_
      exact s_Bd_variable_b114 P W x1 x2 x3 x4 X70 hX70 x5 ((G 112 x1) + x5) 206 G4
    · refine r_aload_n 104 1 dX11_variable_103 rfl rfl rfl ?_
      refine r_get 107 (aR 181) dX11_variable_104 fkX11_85 (fun _ => dsC_180 P W _) nn180 rfl rfl ?_
      refine r_goto 114 dX11_variable_107 rfl ?_
      refine r_to [1, 2, 3, 4, 5, 6, 0] [(0, aR 180), (1, aI x1), (2, aI x2), (3, aI x3), (4, aI x4), (5, aI x5), (6, aI ((G 112 x1) + x5))] rfl ?_
      exact s_Bd_variable_b114 P W x1 x2 x3 x4 X70 hX70 x5 ((G 112 x1) + x5) 181 G4
theorem sl_Bd_variable_70 (P W : Int) (x1 : Int) (x2 : Int) (x3 : Int) (x4 : Int) (x5 : Int) (G : St) : SS (MBd_variable P W) some 70 [(0, aR 180), (1, aI x1), (2, aI x2), (3, aI x3), (4, aI x4), (5, aI x5)] [] G (Bd_variable_l70 P W x1 x2 x3 x4 x5 G) := by
  exact SS.loop (σ := Int × St) (fun s => [(0, aR 180), (1, aI x1), (2, aI x2), (3, aI x3), (4, aI x4), (5, aI (s.1))]) (fun s => s.2) (fun s => Bd_variable_s70 P W x1 x2 x3 x4 s.1 s.2) (fun X70 hX70 s => s_Bd_variable_s70 P W x1 x2 x3 x4  X70 hX70 s.1 s.2) (x5, G)
theorem s_Bd_variable_b67 (P W : Int) (x1 : Int) (x2 : Int) (x3 : Int) (x4 : Int) (G : St) : SS (MBd_variable P W) some 67 [(0, aR 180), (1, aI x1), (2, aI x2), (3, aI x3), (4, aI x4)] [] G (Bd_variable_b67 P W x1 x2 x3 x4 G) := by
  refine r_iconst 68 0 dX11_variable_67 rfl rfl ?_
  refine r_istore 70 [(5, aI 0), (0, aR 180), (1, aI x1), (2, aI x2), (3, aI x3), (4, aI x4)] dX11_variable_68 rfl rfl rfl ?_
  refine r_to [1, 2, 3, 4, 5, 0] [(0, aR 180), (1, aI x1), (2, aI x2), (3, aI x3), (4, aI x4), (5, aI 0)] rfl ?_
  exact sl_Bd_variable_70 P W x1 x2 x3 x4 0 G
theorem s_Bd_variable_b50 (P W : Int) (x1 : Int) (x2 : Int) (x3 : Int) (s0 : Int) (G : St) : SS (MBd_variable P W) some 50 [(0, aR 180), (1, aI x1), (2, aI x2), (3, aI x3)] [aI s0] G (Bd_variable_b50 P W x1 x2 x3 s0 G) := by
  refine r_istore 52 [(4, aI s0), (0, aR 180), (1, aI x1), (2, aI x2), (3, aI x3)] dX11_variable_50 rfl rfl rfl ?_
  refine r_iload 54 0 dX11_variable_52 rfl rfl ?_
  refine r_if_eq 67 57 dX11_variable_54 rfl rfl ?_ ?_
  · refine r_to [1, 2, 3, 4, 0] [(0, aR 180), (1, aI x1), (2, aI x2), (3, aI x3), (4, aI s0)] rfl ?_
    exact s_Bd_variable_b67 P W x1 x2 x3 s0 G
  · refine r_aload_n 58 1 dX11_variable_57 rfl rfl rfl ?_
    refine r_dup 59 dX11_variable_58 rfl rfl ?_
    refine r_get 62 (aI (G 180 6)) dX11_variable_59 fkX11_109 (fun _ => dsC_180 P W _) nn180 rfl rfl ?_
    refine r_iconst 63 1 dX11_variable_62 rfl rfl ?_
    refine r_isub 64 dX11_variable_63 rfl ?_
    refine r_putI 67 dX11_variable_64 fkX11_109 (fun _ => dsC_180 P W _) nn180 rfl rfl ?_
    refine ss_tk (fun G6 => ?_)
    refine r_to [1, 2, 3, 4, 0] [(0, aR 180), (1, aI x1), (2, aI x2), (3, aI x3), (4, aI s0)] rfl ?_
    exact s_Bd_variable_b67 P W x1 x2 x3 s0 G6
theorem s_Bd_variable (P W : Int) (x1 : Int) (G : St) : SS (MBd_variable P W) some 0 [(0, aR 180), (1, aI x1)] [] G (Bd_variable P W x1 G) := by
  refine r_aload_n 1 0 dX11_variable_0 rfl rfl rfl ?_
  refine r_aload_n 2 0 dX11_variable_1 rfl rfl rfl ?_
  refine r_get 5 (aR 110) dX11_variable_2 fkX11_64 (fun _ => dsC_180 P W _) nn180 rfl rfl ?_
  refine r_get 8 (aR 114) dX11_variable_5 fkX11_200 (fun _ => dsC_110 P W _) nn110 rfl rfl ?_
  refine r_iload_n 9 1 dX11_variable_8 rfl rfl rfl ?_
  refine r_iald 10 dX11_variable_9 (fun _ _ _ => dsC_114 P W _) (fun _ _ => nn114) rfl ?_
  refine r_iconst 11 1 dX11_variable_10 rfl rfl ?_
  refine r_iand 12 dX11_variable_11 rfl ?_
  refine r_callvI 15 (Mc := MBd_bits P W) (o := 180) (as := [aI (j_an (G 114 x1) 1)]) (st := []) dX11_variable_12 rfl (c_Bd_bits P W (j_an (G 114 x1) 1) G) lkX11_248 (cmBd_bits P W) rfl rfl rfl (fun _ => dsC_180 P W _) nn180 rfl (Nat.le_of_ble_eq_true rfl) (Nat.le_of_ble_eq_true rfl) (fun _ => rfl) rfl (fun z1 G2 => ?_)
  refine r_istore_n 16 [(2, aI z1), (0, aR 180), (1, aI x1)] dX11_variable_15 rfl rfl rfl rfl ?_
  refine r_iconst 17 1 dX11_variable_16 rfl rfl ?_
  refine r_aload_n 18 1 dX11_variable_17 rfl rfl rfl ?_
  refine r_get 21 (aR 110) dX11_variable_18 fkX11_64 (fun _ => dsC_180 P W _) nn180 rfl rfl ?_
  refine r_get 24 (aR 114) dX11_variable_21 fkX11_200 (fun _ => dsC_110 P W _) nn110 rfl rfl ?_
  refine r_iload_n 25 2 dX11_variable_24 rfl rfl rfl ?_
  refine r_iald 26 dX11_variable_25 (fun _ _ _ => dsC_114 P W _) (fun _ _ => nn114) rfl ?_
  refine r_iconst 27 2 dX11_variable_26 rfl rfl ?_
  refine r_idiv 28 dX11_variable_27 rfl ?_
  refine r_mmax 31 dX11_variable_28 q1582 (Nat.le_of_ble_eq_true rfl) (Nat.le_of_ble_eq_true rfl) rfl rfl ?_
  refine r_istore_n 32 [(3, aI (if 1 < ((G2 114 x1) / 2) then ((G2 114 x1) / 2) else 1)), (2, aI z1), (0, aR 180), (1, aI x1)] dX11_variable_31 rfl rfl rfl rfl ?_
  refine ss_vlI (fun v3 => ?_)
  refine r_aload_n 33 2 dX11_variable_32 rfl rfl rfl ?_
  refine r_get 36 (aR 110) dX11_variable_33 fkX11_64 (fun _ => dsC_180 P W _) nn180 rfl rfl ?_
  refine r_get 39 (aR 113) dX11_variable_36 fkX11_206 (fun _ => dsC_110 P W _) nn110 rfl rfl ?_
  refine r_iload_n 40 3 dX11_variable_39 rfl rfl rfl ?_
  refine r_iald 41 dX11_variable_40 (fun _ _ _ => dsC_113 P W _) (fun _ _ => nn113) rfl ?_
  refine r_iconst 42 1 dX11_variable_41 rfl rfl ?_
  refine SS.phi (fun VV_ => Bd_variable_b50 P W x1 z1 v3 VV_ G2) ?_
  refine r_icmp_ne 49 45 dX11_variable_42 rfl rfl ?_ ?_
  · refine r_iconst 50 0 dX11_variable_49 rfl rfl ?_
    refine r_to [2, 3, 1, 0] [(0, aR 180), (1, aI x1), (2, aI z1), (3, aI v3)] rfl ?_
    exact s_Bd_variable_b50 P W x1 z1 v3 0 G2
  · refine r_iconst 46 1 dX11_variable_45 rfl rfl ?_
    refine r_goto 50 dX11_variable_46 rfl ?_
    refine r_to [2, 3, 1, 0] [(0, aR 180), (1, aI x1), (2, aI z1), (3, aI v3)] rfl ?_
    exact s_Bd_variable_b50 P W x1 z1 v3 1 G2
theorem c_Bd_variable (P W : Int) (x1 : Int) (G : St) : MG (MBd_variable P W) [aR 180, aI x1] G (Bd_variable P W x1 G) := MG.of plX11 (Nat.le_of_ble_eq_true rfl) (s_Bd_variable P W x1 G)
