set_option maxRecDepth 100000
theorem s_Tw_word_s2 (P W : Int) (x1 : Int) (x2 : Int) (X2 : Int × St → Option (Int × St)) (hX2 : ∀ s, So (MTw_word P W) 2 [(0, aR 100), (1, aI x1), (2, aI x2), (3, aI (s.1))] [] s.2 (X2 s)) (x3 : Int) (G : St) : SS (MTw_word P W) (lk X2 some) 2 [(0, aR 100), (1, aI x1), (2, aI x2), (3, aI x3)] [] G (Tw_word_s2 x1 x2 x3 G) := by
  refine r_iload_n 3 3 dX15_word_2 rfl rfl rfl ?_
  refine r_iconst 4 4 dX15_word_3 rfl rfl ?_
  refine r_icmp_ge 34 7 dX15_word_4 rfl rfl ?_ ?_
  · refine SS.ex ?_
    exact r_return dX15_word_34 rfl
  · refine r_aload_n 8 0 dX15_word_7 rfl rfl rfl ?_
    refine r_get 11 (aR 104) dX15_word_8 fkX15_7 (fun _ => dsT_100 P W _) nn100 rfl rfl ?_
    refine r_iload_n 12 1 dX15_word_11 rfl rfl rfl ?_
    refine r_iload_n 13 3 dX15_word_12 rfl rfl rfl ?_
    refine r_iadd 14 dX15_word_13 rfl ?_
    refine r_iload_n 15 2 dX15_word_14 rfl rfl rfl ?_
    refine r_bipush 17 24 dX15_word_15 rfl rfl ?_
    refine r_bipush 19 8 dX15_word_17 rfl rfl ?_
    refine r_iload_n 20 3 dX15_word_19 rfl rfl rfl ?_
    refine r_imul 21 dX15_word_20 rfl ?_
    refine r_isub 22 dX15_word_21 rfl ?_
    refine r_ishr 23 dX15_word_22 rfl ?_
    refine r_sipush 26 255 dX15_word_23 rfl rfl ?_
    refine r_iand 27 dX15_word_26 rfl ?_
    refine r_iast 28 dX15_word_27 (fun _ _ _ => dsT_104 P W _) (fun _ _ => nn104) rfl ?_
    refine ss_tk (fun G1 => ?_)
    refine r_iinc 31 [(3, aI (x3 + 1)), (0, aR 100), (1, aI x1), (2, aI x2)] 3 dX15_word_28 rfl rfl rfl rfl ?_
    refine r_goto 2 dX15_word_31 rfl ?_
    refine r_to [1, 2, 3, 0] [(0, aR 100), (1, aI x1), (2, aI x2), (3, aI (x3 + 1))] rfl ?_
    exact SS.back (hX2 (x3 + 1, G1))
theorem sl_Tw_word_2 (P W : Int) (x1 : Int) (x2 : Int) (x3 : Int) (G : St) : SS (MTw_word P W) some 2 [(0, aR 100), (1, aI x1), (2, aI x2), (3, aI x3)] [] G (Tw_word_l2 x1 x2 x3 G) := by
  exact SS.loop (σ := Int × St) (fun s => [(0, aR 100), (1, aI x1), (2, aI x2), (3, aI (s.1))]) (fun s => s.2) (fun s => Tw_word_s2 x1 x2 s.1 s.2) (fun X2 hX2 s => s_Tw_word_s2 P W x1 x2  X2 hX2 s.1 s.2) (x3, G)
theorem s_Tw_word (P W : Int) (x1 : Int) (x2 : Int) (G : St) : SS (MTw_word P W) some 0 [(0, aR 100), (1, aI x1), (2, aI x2)] [] G (Tw_word x1 x2 G) := by
  refine r_iconst 1 0 dX15_word_0 rfl rfl ?_
  refine r_istore_n 2 [(3, aI 0), (0, aR 100), (1, aI x1), (2, aI x2)] dX15_word_1 rfl rfl rfl rfl ?_
  refine r_to [1, 2, 3, 0] [(0, aR 100), (1, aI x1), (2, aI x2), (3, aI 0)] rfl ?_
  exact sl_Tw_word_2 P W x1 x2 0 G
theorem c_Tw_word (P W : Int) (x1 : Int) (x2 : Int) (G : St) : MG (MTw_word P W) [aR 100, aI x1, aI x2] G (Tw_word x1 x2 G) := MG.of plX15 (Nat.le_of_ble_eq_true rfl) (s_Tw_word P W x1 x2 G)
theorem s_Tw_feed (P W : Int) (x1 : Int) (x2 : Int) (x3 : Int) (x4 : Int) (x5 : Int) (G : St) : SS (MTw_feed P W) some 0 [(0, aR 100), (1, aI x1), (2, aI x2), (3, aI x3), (4, aI x4), (5, aI x5)] [] G (Tw_feed x1 x2 x3 x4 x5 G) := by
  refine r_aload_n 1 0 dX15_feed_0 rfl rfl rfl ?_
  refine r_iconst 2 0 dX15_feed_1 rfl rfl ?_
  refine r_iload_n 3 1 dX15_feed_2 rfl rfl rfl ?_
  refine r_callvV 6 (Mc := MTw_word P W) (o := 100) (as := [aI 0, aI x1]) (st := []) dX15_feed_3 rfl (c_Tw_word P W 0 x1 G) lkX15_316 (cmTw_word P W) rfl rfl rfl (fun _ => dsT_100 P W _) nn100 rfl (Nat.le_of_ble_eq_true rfl) (Nat.le_of_ble_eq_true rfl) (fun _ => rfl) rfl (fun z1 G2 => ?_)
  refine r_aload_n 7 0 dX15_feed_6 rfl rfl rfl ?_
  refine r_iconst 8 4 dX15_feed_7 rfl rfl ?_
  refine r_iload_n 9 2 dX15_feed_8 rfl rfl rfl ?_
  refine r_callvV 12 (Mc := MTw_word P W) (o := 100) (as := [aI 4, aI x2]) (st := []) dX15_feed_9 rfl (c_Tw_word P W 4 x2 G2) lkX15_316 (cmTw_word P W) rfl rfl rfl (fun _ => dsT_100 P W _) nn100 rfl (Nat.le_of_ble_eq_true rfl) (Nat.le_of_ble_eq_true rfl) (fun _ => rfl) rfl (fun z3 G4 => ?_)
  refine r_aload_n 13 0 dX15_feed_12 rfl rfl rfl ?_
  refine r_bipush 15 8 dX15_feed_13 rfl rfl ?_
  refine r_iload_n 16 3 dX15_feed_15 rfl rfl rfl ?_
  refine r_callvV 19 (Mc := MTw_word P W) (o := 100) (as := [aI 8, aI x3]) (st := []) dX15_feed_16 rfl (c_Tw_word P W 8 x3 G4) lkX15_316 (cmTw_word P W) rfl rfl rfl (fun _ => dsT_100 P W _) nn100 rfl (Nat.le_of_ble_eq_true rfl) (Nat.le_of_ble_eq_true rfl) (fun _ => rfl) rfl (fun z5 G6 => ?_)
  refine r_aload_n 20 0 dX15_feed_19 rfl rfl rfl ?_
  refine r_bipush 22 12 dX15_feed_20 rfl rfl ?_
  refine r_iload 24 4 dX15_feed_22 rfl rfl ?_
  refine r_callvV 27 (Mc := MTw_word P W) (o := 100) (as := [aI 12, aI x4]) (st := []) dX15_feed_24 rfl (c_Tw_word P W 12 x4 G6) lkX15_316 (cmTw_word P W) rfl rfl rfl (fun _ => dsT_100 P W _) nn100 rfl (Nat.le_of_ble_eq_true rfl) (Nat.le_of_ble_eq_true rfl) (fun _ => rfl) rfl (fun z7 G8 => ?_)
  refine r_aload_n 28 0 dX15_feed_27 rfl rfl rfl ?_
  refine r_bipush 30 16 dX15_feed_28 rfl rfl ?_
  refine r_iload 32 5 dX15_feed_30 rfl rfl ?_
  refine r_callvV 35 (Mc := MTw_word P W) (o := 100) (as := [aI 16, aI x5]) (st := []) dX15_feed_32 rfl (c_Tw_word P W 16 x5 G8) lkX15_316 (cmTw_word P W) rfl rfl rfl (fun _ => dsT_100 P W _) nn100 rfl (Nat.le_of_ble_eq_true rfl) (Nat.le_of_ble_eq_true rfl) (fun _ => rfl) rfl (fun z9 G10 => ?_)
  exact r_return dX15_feed_35 rfl
theorem c_Tw_feed (P W : Int) (x1 : Int) (x2 : Int) (x3 : Int) (x4 : Int) (x5 : Int) (G : St) : MG (MTw_feed P W) [aR 100, aI x1, aI x2, aI x3, aI x4, aI x5] G (Tw_feed x1 x2 x3 x4 x5 G) := MG.of plX15 (Nat.le_of_ble_eq_true rfl) (s_Tw_feed P W x1 x2 x3 x4 x5 G)
theorem s_Tw_end_s125 (P W : Int) (X125 : Int × St → Option (Int × St)) (hX125 : ∀ s, So (MTw_end P W) 125 [(0, aR 100), (2, aI (s.1))] [] s.2 (X125 s)) (x2 : Int) (G : St) : SS (MTw_end P W) (lk X125 some) 125 [(0, aR 100), (2, aI x2)] [] G (Tw_end_s125 x2 G) := by
  refine r_iload_n 126 1 dX15_end_125 rfl rfl rfl ?_
  refine r_bipush 128 20 dX15_end_126 rfl rfl ?_
  refine r_icmp_ge 144 131 dX15_end_128 rfl rfl ?_ ?_
  · refine SS.ex ?_
    refine r_aload_n 145 0 dX15_end_144 rfl rfl rfl ?_
    refine r_get 148 (aI (G 100 5)) dX15_end_145 fkX15_320 (fun _ => dsT_100 P W _) nn100 rfl rfl ?_
    exact r_ireturn dX15_end_148 rfl
  · refine r_aload_n 132 0 dX15_end_131 rfl rfl rfl ?_
    refine r_get 135 (aR 104) dX15_end_132 fkX15_7 (fun _ => dsT_100 P W _) nn100 rfl rfl ?_
    refine r_iload_n 136 1 dX15_end_135 rfl rfl rfl ?_
    refine r_iconst 137 0 dX15_end_136 rfl rfl ?_
    refine r_iast 138 dX15_end_137 (fun _ _ _ => dsT_104 P W _) (fun _ _ => nn104) rfl ?_
    refine ss_tk (fun G2 => ?_)
    refine r_iinc 141 [(2, aI (x2 + 1)), (0, aR 100)] 1 dX15_end_138 rfl rfl rfl rfl ?_
    refine r_goto 125 dX15_end_141 rfl ?_
    refine r_to [1, 0] [(0, aR 100), (2, aI (x2 + 1))] rfl ?_
    exact SS.back (hX125 (x2 + 1, G2))
theorem sl_Tw_end_125 (P W : Int) (x2 : Int) (G : St) : SS (MTw_end P W) some 125 [(0, aR 100), (2, aI x2)] [] G (Tw_end_l125 x2 G) := by
  exact SS.loop (σ := Int × St) (fun s => [(0, aR 100), (2, aI (s.1))]) (fun s => s.2) (fun s => Tw_end_s125 s.1 s.2) (fun X125 hX125 s => s_Tw_end_s125 P W   X125 hX125 s.1 s.2) (x2, G)
theorem s_Tw_end_s85 (P W : Int) (x1 : Int) (X85 : Int × St → Option (Int × St)) (hX85 : ∀ s, So (MTw_end P W) 85 [(0, aR 100), (1, aI x1), (2, aI (s.1))] [] s.2 (X85 s)) (x2 : Int) (G : St) : SS (MTw_end P W) (lk X85 some) 85 [(0, aR 100), (1, aI x1), (2, aI x2)] [] G (Tw_end_s85 x1 x2 G) := by
  refine r_iload_n 86 2 dX15_end_85 rfl rfl rfl ?_
  refine r_iload_n 87 1 dX15_end_86 rfl rfl rfl ?_
  refine r_icmp_ge 113 90 dX15_end_87 rfl rfl ?_ ?_
  · refine SS.ex ?_
    refine r_aload_n 114 0 dX15_end_113 rfl rfl rfl ?_
    refine r_dup 115 dX15_end_114 rfl rfl ?_
    refine r_get 118 (aI (G 100 5)) dX15_end_115 fkX15_320 (fun _ => dsT_100 P W _) nn100 rfl rfl ?_
    refine r_iload_n 119 1 dX15_end_118 rfl rfl rfl ?_
    refine r_iadd 120 dX15_end_119 rfl ?_
    refine r_putI 123 dX15_end_120 fkX15_320 (fun _ => dsT_100 P W _) nn100 rfl rfl ?_
    refine ss_tk (fun G1 => ?_)
    refine r_iconst 124 0 dX15_end_123 rfl rfl ?_
    refine r_istore_n 125 [(2, aI 0), (0, aR 100), (1, aI x1)] dX15_end_124 rfl rfl rfl rfl ?_
    refine r_to [1, 0] [(0, aR 100), (2, aI 0)] rfl ?_
    exact sl_Tw_end_125 P W 0 G1
  · refine r_aload_n 91 0 dX15_end_90 rfl rfl rfl ?_
    refine r_get 94 (aR 105) dX15_end_91 fkX15_13 (fun _ => dsT_100 P W _) nn100 rfl rfl ?_
    refine r_aload_n 95 0 dX15_end_94 rfl rfl rfl ?_
    refine r_get 98 (aI (G 100 5)) dX15_end_95 fkX15_320 (fun _ => dsT_100 P W _) nn100 rfl rfl ?_
    refine r_iload_n 99 2 dX15_end_98 rfl rfl rfl ?_
    refine r_iadd 100 dX15_end_99 rfl ?_
    refine r_aload_n 101 0 dX15_end_100 rfl rfl rfl ?_
    refine r_get 104 (aR 104) dX15_end_101 fkX15_7 (fun _ => dsT_100 P W _) nn100 rfl rfl ?_
    refine r_iload_n 105 2 dX15_end_104 rfl rfl rfl ?_
    refine r_iald 106 dX15_end_105 (fun _ _ _ => dsT_104 P W _) (fun _ _ => nn104) rfl ?_
    refine r_iast 107 dX15_end_106 (fun _ _ _ => dsT_105 P W _) (fun _ _ => nn105) rfl ?_
    refine ss_tk (fun G3 => ?_)
    refine r_iinc 110 [(2, aI (x2 + 1)), (0, aR 100), (1, aI x1)] 2 dX15_end_107 rfl rfl rfl rfl ?_
    refine r_goto 85 dX15_end_110 rfl ?_
    refine r_to [1, 2, 0] [(0, aR 100), (1, aI x1), (2, aI (x2 + 1))] rfl ?_
    exact SS.back (hX85 (x2 + 1, G3))
theorem sl_Tw_end_85 (P W : Int) (x1 : Int) (x2 : Int) (G : St) : SS (MTw_end P W) some 85 [(0, aR 100), (1, aI x1), (2, aI x2)] [] G (Tw_end_l85 x1 x2 G) := by
  exact SS.loop (σ := Int × St) (fun s => [(0, aR 100), (1, aI x1), (2, aI (s.1))]) (fun s => s.2) (fun s => Tw_end_s85 x1 s.1 s.2) (fun X85 hX85 s => s_Tw_end_s85 P W x1  X85 hX85 s.1 s.2) (x2, G)
theorem s_Tw_end_b77 (P W : Int) (x1 : Int) (X26 : Int × St → Option (Int × St)) (hX26 : ∀ s, So (MTw_end P W) 26 [(0, aR 100), (1, aI x1), (2, aI (s.1))] [] s.2 (X26 s)) (x2 : Int) (G : St) : SS (MTw_end P W) (lk X26 some) 77 [(0, aR 100), (1, aI x1), (2, aI x2)] [] G (Tw_end_b77 x1 x2 G) := by
  refine r_iinc 80 [(2, aI (x2 + 1)), (0, aR 100), (1, aI x1)] 2 dX15_end_77 rfl rfl rfl rfl ?_
  refine r_goto 26 dX15_end_80 rfl ?_
  refine r_to [1, 2, 0] [(0, aR 100), (1, aI x1), (2, aI (x2 + 1))] rfl ?_
  exact SS.back (hX26 (x2 + 1, G))
theorem s_Tw_end_s26 (P W : Int) (x1 : Int) (X26 : Int × St → Option (Int × St)) (hX26 : ∀ s, So (MTw_end P W) 26 [(0, aR 100), (1, aI x1), (2, aI (s.1))] [] s.2 (X26 s)) (x2 : Int) (G : St) : SS (MTw_end P W) (lk X26 some) 26 [(0, aR 100), (1, aI x1), (2, aI x2)] [] G (Tw_end_s26 x1 x2 G) := by
  refine r_iload_n 27 2 dX15_end_26 rfl rfl rfl ?_
  refine r_iload_n 28 1 dX15_end_27 rfl rfl rfl ?_
  refine r_icmp_ge 83 31 dX15_end_28 rfl rfl ?_ ?_
  · refine SS.ex ?_
    refine r_iconst 84 0 dX15_end_83 rfl rfl ?_
    refine r_istore_n 85 [(2, aI 0), (0, aR 100), (1, aI x1)] dX15_end_84 rfl rfl rfl rfl ?_
    refine r_to [1, 2, 0] [(0, aR 100), (1, aI x1), (2, aI 0)] rfl ?_
    exact sl_Tw_end_85 P W x1 0 G
  · refine r_aload_n 32 0 dX15_end_31 rfl rfl rfl ?_
    refine r_get 35 (aR 104) dX15_end_32 fkX15_7 (fun _ => dsT_100 P W _) nn100 rfl rfl ?_
    refine r_iload_n 36 2 dX15_end_35 rfl rfl rfl ?_
    refine r_iald 37 dX15_end_36 (fun _ _ _ => dsT_104 P W _) (fun _ _ => nn104) rfl ?_
    refine r_bipush 39 9 dX15_end_37 rfl rfl ?_
    refine r_icmp_eq 77 42 dX15_end_39 rfl rfl ?_ ?_
    · exact s_Tw_end_b77 P W x1 X26 hX26 x2 G
    · refine r_aload_n 43 0 dX15_end_42 rfl rfl rfl ?_
      refine r_get 46 (aR 104) dX15_end_43 fkX15_7 (fun _ => dsT_100 P W _) nn100 rfl rfl ?_
      refine r_iload_n 47 2 dX15_end_46 rfl rfl rfl ?_
      refine r_iald 48 dX15_end_47 (fun _ _ _ => dsT_104 P W _) (fun _ _ => nn104) rfl ?_
      refine r_bipush 50 10 dX15_end_48 rfl rfl ?_
      refine r_icmp_eq 77 53 dX15_end_50 rfl rfl ?_ ?_
      · exact s_Tw_end_b77 P W x1 X26 hX26 x2 G
      · refine r_aload_n 54 0 dX15_end_53 rfl rfl rfl ?_
        refine r_get 57 (aR 104) dX15_end_54 fkX15_7 (fun _ => dsT_100 P W _) nn100 rfl rfl ?_
        refine r_iload_n 58 2 dX15_end_57 rfl rfl rfl ?_
        refine r_iald 59 dX15_end_58 (fun _ _ _ => dsT_104 P W _) (fun _ _ => nn104) rfl ?_
        refine r_bipush 61 32 dX15_end_59 rfl rfl ?_
        refine r_icmp_lt 75 64 dX15_end_61 rfl rfl ?_ ?_
        · refine SS.ex ?_
          refine r_iconst 76 (-1) dX15_end_75 rfl rfl ?_
          exact r_ireturn dX15_end_76 rfl
        · refine r_aload_n 65 0 dX15_end_64 rfl rfl rfl ?_
          refine r_get 68 (aR 104) dX15_end_65 fkX15_7 (fun _ => dsT_100 P W _) nn100 rfl rfl ?_
          refine r_iload_n 69 2 dX15_end_68 rfl rfl rfl ?_
          refine r_iald 70 dX15_end_69 (fun _ _ _ => dsT_104 P W _) (fun _ _ => nn104) rfl ?_
          refine r_bipush 72 126 dX15_end_70 rfl rfl ?_
          refine r_icmp_le 77 75 dX15_end_72 rfl rfl ?_ ?_
          · exact s_Tw_end_b77 P W x1 X26 hX26 x2 G
          · refine SS.ex ?_
            refine r_iconst 76 (-1) dX15_end_75 rfl rfl ?_
            exact r_ireturn dX15_end_76 rfl
theorem sl_Tw_end_26 (P W : Int) (x1 : Int) (x2 : Int) (G : St) : SS (MTw_end P W) some 26 [(0, aR 100), (1, aI x1), (2, aI x2)] [] G (Tw_end_l26 x1 x2 G) := by
  exact SS.loop (σ := Int × St) (fun s => [(0, aR 100), (1, aI x1), (2, aI (s.1))]) (fun s => s.2) (fun s => Tw_end_s26 x1 s.1 s.2) (fun X26 hX26 s => s_Tw_end_s26 P W x1  X26 hX26 s.1 s.2) (x2, G)
theorem s_Tw_end (P W : Int) (x1 : Int) (G : St) : SS (MTw_end P W) some 0 [(0, aR 100), (1, aI x1)] [] G (Tw_end x1 G) := by
  refine r_iload_n 1 1 dX15_end_0 rfl rfl rfl ?_
  refine r_if_lt 22 4 dX15_end_1 rfl rfl ?_ ?_
  · refine r_iconst 23 (-1) dX15_end_22 rfl rfl ?_
    exact r_ireturn dX15_end_23 rfl
  · refine r_iload_n 5 1 dX15_end_4 rfl rfl rfl ?_
    refine r_bipush 7 20 dX15_end_5 rfl rfl ?_
    refine r_icmp_gt 22 10 dX15_end_7 rfl rfl ?_ ?_
    · refine r_iconst 23 (-1) dX15_end_22 rfl rfl ?_
      exact r_ireturn dX15_end_23 rfl
    · refine r_aload_n 11 0 dX15_end_10 rfl rfl rfl ?_
      refine r_get 14 (aI (G 100 5)) dX15_end_11 fkX15_320 (fun _ => dsT_100 P W _) nn100 rfl rfl ?_
      refine r_iload_n 15 1 dX15_end_14 rfl rfl rfl ?_
      refine r_iadd 16 dX15_end_15 rfl ?_
      refine r_sipush 19 4000 dX15_end_16 rfl rfl ?_
      refine r_icmp_le 24 22 dX15_end_19 rfl rfl ?_ ?_
      · refine r_iconst 25 0 dX15_end_24 rfl rfl ?_
        refine r_istore_n 26 [(2, aI 0), (0, aR 100), (1, aI x1)] dX15_end_25 rfl rfl rfl rfl ?_
        refine r_to [1, 2, 0] [(0, aR 100), (1, aI x1), (2, aI 0)] rfl ?_
        exact sl_Tw_end_26 P W x1 0 G
      · refine r_iconst 23 (-1) dX15_end_22 rfl rfl ?_
        exact r_ireturn dX15_end_23 rfl
theorem c_Tw_end (P W : Int) (x1 : Int) (G : St) : MG (MTw_end P W) [aR 100, aI x1] G (Tw_end x1 G) := MG.of plX15 (Nat.le_of_ble_eq_true rfl) (s_Tw_end P W x1 G)
theorem s_Tw_widthOf (P W : Int) (x1 : Int) (G : St) : SS (MTw_widthOf P W) some 0 [(0, aR 100), (1, aI x1)] [] G (Tw_widthOf P W x1 G) := by
  refine r_iload_n 1 1 dX15_widthOf_0 rfl rfl rfl ?_
  refine SS.phi (fun VV_ => some (VV_, G)) ?_
  refine r_if_ne 11 4 dX15_widthOf_1 rfl rfl ?_ ?_
  · refine r_iconst 12 1 dX15_widthOf_11 rfl rfl ?_
    exact r_ireturn dX15_widthOf_12 rfl
  · refine r_aload_n 5 0 dX15_widthOf_4 rfl rfl rfl ?_
    refine r_get 8 (aI W) dX15_widthOf_5 fkX15_303 (fun _ => dsT_100 P W _) nn100 rfl rfl ?_
    refine r_goto 12 dX15_widthOf_8 rfl ?_
    exact r_ireturn dX15_widthOf_12 rfl
theorem c_Tw_widthOf (P W : Int) (x1 : Int) (G : St) : MG (MTw_widthOf P W) [aR 100, aI x1] G (Tw_widthOf P W x1 G) := MG.of plX15 (Nat.le_of_ble_eq_true rfl) (s_Tw_widthOf P W x1 G)
theorem s_Tw_inputsOfAll_b153 (P W : Int) (X12 : Int × St → Option (Int × St)) (hX12 : ∀ s, So (MTw_inputsOfAll P W) 12 [(0, aR 100), (1, aI (s.1))] [] s.2 (X12 s)) (x1 : Int) (G : St) : SS (MTw_inputsOfAll P W) (lk X12 some) 153 [(0, aR 100), (1, aI x1)] [] G (Tw_inputsOfAll_b153 P W x1 G) := by
  refine r_iinc 156 [(1, aI (x1 + 1)), (0, aR 100)] 1 dX15_inputsOfAll_153 rfl rfl rfl rfl ?_
  refine r_goto 12 dX15_inputsOfAll_156 rfl ?_
  refine r_to [1, 0] [(0, aR 100), (1, aI (x1 + 1))] rfl ?_
  exact SS.back (hX12 (x1 + 1, G))
theorem s_Tw_inputsOfAll_b55 (P W : Int) (X12 : Int × St → Option (Int × St)) (hX12 : ∀ s, So (MTw_inputsOfAll P W) 12 [(0, aR 100), (1, aI (s.1))] [] s.2 (X12 s)) (x1 : Int) (x2 : Int) (X45 : Int × St → Option (Int × St)) (hX45 : ∀ s, So (MTw_inputsOfAll P W) 45 [(0, aR 100), (1, aI x1), (2, aI x2), (3, aI (s.1))] [] s.2 (X45 s)) (x3 : Int) (s0 : Int) (s1 : Int) (G : St) : SS (MTw_inputsOfAll P W) (lk X45 (lk X12 some)) 55 [(0, aR 100), (1, aI x1), (2, aI x2), (3, aI x3)] [aI s0, aI s1] G (Tw_inputsOfAll_b55 P W x1 x2 x3 s0 s1 G) := by
  refine r_icmp_ge 153 58 dX15_inputsOfAll_55 rfl rfl ?_ ?_
  · refine SS.ex ?_
    refine r_to [0, 1] [(0, aR 100), (1, aI x1)] rfl ?_
    exact s_Tw_inputsOfAll_b153 P W X12 hX12 x1 G
  · refine r_aload_n 59 0 dX15_inputsOfAll_58 rfl rfl rfl ?_
    refine r_get 62 (aR 177) dX15_inputsOfAll_59 fkX15_136 (fun _ => dsT_100 P W _) nn100 rfl rfl ?_
    refine r_aload_n 63 0 dX15_inputsOfAll_62 rfl rfl rfl ?_
    refine r_get 66 (aI (G 100 75)) dX15_inputsOfAll_63 fkX15_663 (fun _ => dsT_100 P W _) nn100 rfl rfl ?_
    refine r_aload_n 67 0 dX15_inputsOfAll_66 rfl rfl rfl ?_
    refine r_get 70 (aR 119) dX15_inputsOfAll_67 fkX15_34 (fun _ => dsT_100 P W _) nn100 rfl rfl ?_
    refine r_iload_n 71 1 dX15_inputsOfAll_70 rfl rfl rfl ?_
    refine r_lald 72 dX15_inputsOfAll_71 (fun _ _ _ => dsT_119 P W _) (fun _ _ => nn119) rfl ?_
    refine r_bipush 74 8 dX15_inputsOfAll_72 rfl rfl ?_
    refine r_lshr 75 dX15_inputsOfAll_74 rfl ?_
    refine r_l2iw 76 dX15_inputsOfAll_75 rfl ?_
    refine r_iast 77 dX15_inputsOfAll_76 (fun _ _ _ => dsT_177 P W _) (fun _ _ => nn177) rfl ?_
    refine ss_tk (fun G3 => ?_)
    refine r_aload_n 78 0 dX15_inputsOfAll_77 rfl rfl rfl ?_
    refine r_get 81 (aR 178) dX15_inputsOfAll_78 fkX15_139 (fun _ => dsT_100 P W _) nn100 rfl rfl ?_
    refine r_aload_n 82 0 dX15_inputsOfAll_81 rfl rfl rfl ?_
    refine r_get 85 (aI (G3 100 75)) dX15_inputsOfAll_82 fkX15_663 (fun _ => dsT_100 P W _) nn100 rfl rfl ?_
    refine r_aload_n 86 0 dX15_inputsOfAll_85 rfl rfl rfl ?_
    refine r_aload_n 87 0 dX15_inputsOfAll_86 rfl rfl rfl ?_
    refine r_get 90 (aR 117) dX15_inputsOfAll_87 fkX15_28 (fun _ => dsT_100 P W _) nn100 rfl rfl ?_
    refine r_iload_n 91 1 dX15_inputsOfAll_90 rfl rfl rfl ?_
    refine r_iald 92 dX15_inputsOfAll_91 (fun _ _ _ => dsT_117 P W _) (fun _ _ => nn117) rfl ?_
    refine r_callvI 95 (Mc := MTw_widthOf P W) (o := 100) (as := [aI (G3 117 x1)]) (st := [aI (G3 100 75), aR 178]) dX15_inputsOfAll_92 rfl (c_Tw_widthOf P W (G3 117 x1) G3) lkX15_666 (cmTw_widthOf P W) rfl rfl rfl (fun _ => dsT_100 P W _) nn100 rfl (Nat.le_of_ble_eq_true rfl) (Nat.le_of_ble_eq_true rfl) (fun _ => rfl) rfl (fun z4 G5 => ?_)
    refine r_iast 96 dX15_inputsOfAll_95 (fun _ _ _ => dsT_178 P W _) (fun _ _ => nn178) rfl ?_
    refine ss_tk (fun G6 => ?_)
    refine r_aload_n 97 0 dX15_inputsOfAll_96 rfl rfl rfl ?_
    refine r_get 100 (aR 179) dX15_inputsOfAll_97 fkX15_142 (fun _ => dsT_100 P W _) nn100 rfl rfl ?_
    refine r_aload_n 101 0 dX15_inputsOfAll_100 rfl rfl rfl ?_
    refine r_get 104 (aI (G6 100 75)) dX15_inputsOfAll_101 fkX15_663 (fun _ => dsT_100 P W _) nn100 rfl rfl ?_
    refine r_aload_n 105 0 dX15_inputsOfAll_104 rfl rfl rfl ?_
    refine r_get 108 (aI (G6 100 65)) dX15_inputsOfAll_105 fkX15_618 (fun _ => dsT_100 P W _) nn100 rfl rfl ?_
    refine r_iast 109 dX15_inputsOfAll_108 (fun _ _ _ => dsT_179 P W _) (fun _ _ => nn179) rfl ?_
    refine ss_tk (fun G7 => ?_)
    refine r_aload_n 110 0 dX15_inputsOfAll_109 rfl rfl rfl ?_
    refine r_get 113 (aR 180) dX15_inputsOfAll_110 fkX15_145 (fun _ => dsT_100 P W _) nn100 rfl rfl ?_
    refine r_aload_n 114 0 dX15_inputsOfAll_113 rfl rfl rfl ?_
    refine r_get 117 (aI (G7 100 75)) dX15_inputsOfAll_114 fkX15_663 (fun _ => dsT_100 P W _) nn100 rfl rfl ?_
    refine r_lconst 118 0 dX15_inputsOfAll_117 rfl rfl rfl ?_
    refine r_last 119 dX15_inputsOfAll_118 (fun _ _ _ => dsT_180 P W _) (fun _ _ => nn180) rfl ?_
    refine ss_tk (fun G8 => ?_)
    refine r_aload_n 120 0 dX15_inputsOfAll_119 rfl rfl rfl ?_
    refine r_dup 121 dX15_inputsOfAll_120 rfl rfl ?_
    refine r_get 124 (aI (G8 100 65)) dX15_inputsOfAll_121 fkX15_618 (fun _ => dsT_100 P W _) nn100 rfl rfl ?_
    refine r_aload_n 125 0 dX15_inputsOfAll_124 rfl rfl rfl ?_
    refine r_get 128 (aR 178) dX15_inputsOfAll_125 fkX15_139 (fun _ => dsT_100 P W _) nn100 rfl rfl ?_
    refine r_aload_n 129 0 dX15_inputsOfAll_128 rfl rfl rfl ?_
    refine r_get 132 (aI (G8 100 75)) dX15_inputsOfAll_129 fkX15_663 (fun _ => dsT_100 P W _) nn100 rfl rfl ?_
    refine r_iald 133 dX15_inputsOfAll_132 (fun _ _ _ => dsT_178 P W _) (fun _ _ => nn178) rfl ?_
    refine r_iadd 134 dX15_inputsOfAll_133 rfl ?_
    refine r_putI 137 dX15_inputsOfAll_134 fkX15_618 (fun _ => dsT_100 P W _) nn100 rfl rfl ?_
    refine ss_tk (fun G9 => ?_)
    refine r_aload_n 138 0 dX15_inputsOfAll_137 rfl rfl rfl ?_
    refine r_dup 139 dX15_inputsOfAll_138 rfl rfl ?_
    refine r_get 142 (aI (G9 100 75)) dX15_inputsOfAll_139 fkX15_663 (fun _ => dsT_100 P W _) nn100 rfl rfl ?_
    refine r_iconst 143 1 dX15_inputsOfAll_142 rfl rfl ?_
    refine r_iadd 144 dX15_inputsOfAll_143 rfl ?_
    refine r_putI 147 dX15_inputsOfAll_144 fkX15_663 (fun _ => dsT_100 P W _) nn100 rfl rfl ?_
    refine ss_tk (fun G10 => ?_)
    refine r_iinc 150 [(3, aI (x3 + 1)), (0, aR 100), (1, aI x1), (2, aI x2)] 3 dX15_inputsOfAll_147 rfl rfl rfl rfl ?_
    refine r_goto 45 dX15_inputsOfAll_150 rfl ?_
    refine r_to [1, 2, 3, 0] [(0, aR 100), (1, aI x1), (2, aI x2), (3, aI (x3 + 1))] rfl ?_
    exact SS.back (hX45 (x3 + 1, G10))
theorem s_Tw_inputsOfAll_s45 (P W : Int) (X12 : Int × St → Option (Int × St)) (hX12 : ∀ s, So (MTw_inputsOfAll P W) 12 [(0, aR 100), (1, aI (s.1))] [] s.2 (X12 s)) (x1 : Int) (x2 : Int) (X45 : Int × St → Option (Int × St)) (hX45 : ∀ s, So (MTw_inputsOfAll P W) 45 [(0, aR 100), (1, aI x1), (2, aI x2), (3, aI (s.1))] [] s.2 (X45 s)) (x3 : Int) (G : St) : SS (MTw_inputsOfAll P W) (lk X45 (lk X12 some)) 45 [(0, aR 100), (1, aI x1), (2, aI x2), (3, aI x3)] [] G (Tw_inputsOfAll_s45 P W x1 x2 x3 G) := by
  refine r_iload_n 46 3 dX15_inputsOfAll_45 rfl rfl rfl ?_
  refine r_iload_n 47 2 dX15_inputsOfAll_46 rfl rfl rfl ?_
  refine SS.phi (fun VV_ => Tw_inputsOfAll_b55 P W x1 x2 x3 VV_ x3 G) ?_
  refine r_if_ne 54 50 dX15_inputsOfAll_47 rfl rfl ?_ ?_
  · refine r_iload_n 55 2 dX15_inputsOfAll_54 rfl rfl rfl ?_
    exact s_Tw_inputsOfAll_b55 P W X12 hX12 x1 x2 X45 hX45 x3 x2 x3 G
  · refine r_iconst 51 1 dX15_inputsOfAll_50 rfl rfl ?_
    refine r_goto 55 dX15_inputsOfAll_51 rfl ?_
    exact s_Tw_inputsOfAll_b55 P W X12 hX12 x1 x2 X45 hX45 x3 1 x3 G
theorem sl_Tw_inputsOfAll_45 (P W : Int) (X12 : Int × St → Option (Int × St)) (hX12 : ∀ s, So (MTw_inputsOfAll P W) 12 [(0, aR 100), (1, aI (s.1))] [] s.2 (X12 s)) (x1 : Int) (x2 : Int) (x3 : Int) (G : St) : SS (MTw_inputsOfAll P W) (lk X12 some) 45 [(0, aR 100), (1, aI x1), (2, aI x2), (3, aI x3)] [] G (Tw_inputsOfAll_l45 P W x1 x2 x3 G) := by
  exact SS.loop (σ := Int × St) (fun s => [(0, aR 100), (1, aI x1), (2, aI x2), (3, aI (s.1))]) (fun s => s.2) (fun s => Tw_inputsOfAll_s45 P W x1 x2 s.1 s.2) (fun X45 hX45 s => s_Tw_inputsOfAll_s45 P W X12 hX12 x1 x2  X45 hX45 s.1 s.2) (x3, G)
theorem s_Tw_inputsOfAll_s12 (P W : Int) (X12 : Int × St → Option (Int × St)) (hX12 : ∀ s, So (MTw_inputsOfAll P W) 12 [(0, aR 100), (1, aI (s.1))] [] s.2 (X12 s)) (x1 : Int) (G : St) : SS (MTw_inputsOfAll P W) (lk X12 some) 12 [(0, aR 100), (1, aI x1)] [] G (Tw_inputsOfAll_s12 P W x1 G) := by
  refine r_iload_n 13 1 dX15_inputsOfAll_12 rfl rfl rfl ?_
  refine r_aload_n 14 0 dX15_inputsOfAll_13 rfl rfl rfl ?_
  refine r_get 17 (aI (G 100 13)) dX15_inputsOfAll_14 fkX15_411 (fun _ => dsT_100 P W _) nn100 rfl rfl ?_
  refine r_icmp_ge 159 20 dX15_inputsOfAll_17 rfl rfl ?_ ?_
  · refine SS.ex ?_
    exact r_return dX15_inputsOfAll_159 rfl
  · refine r_aload_n 21 0 dX15_inputsOfAll_20 rfl rfl rfl ?_
    refine r_get 24 (aR 115) dX15_inputsOfAll_21 fkX15_22 (fun _ => dsT_100 P W _) nn100 rfl rfl ?_
    refine r_iload_n 25 1 dX15_inputsOfAll_24 rfl rfl rfl ?_
    refine r_iald 26 dX15_inputsOfAll_25 (fun _ _ _ => dsT_115 P W _) (fun _ _ => nn115) rfl ?_
    refine r_bipush 28 23 dX15_inputsOfAll_26 rfl rfl ?_
    refine r_icmp_ne 153 31 dX15_inputsOfAll_28 rfl rfl ?_ ?_
    · exact s_Tw_inputsOfAll_b153 P W X12 hX12 x1 G
    · refine r_aload_n 32 0 dX15_inputsOfAll_31 rfl rfl rfl ?_
      refine r_get 35 (aR 119) dX15_inputsOfAll_32 fkX15_34 (fun _ => dsT_100 P W _) nn100 rfl rfl ?_
      refine r_iload_n 36 1 dX15_inputsOfAll_35 rfl rfl rfl ?_
      refine r_lald 37 dX15_inputsOfAll_36 (fun _ _ _ => dsT_119 P W _) (fun _ _ => nn119) rfl ?_
      refine r_ldc2 40 255 dX15_inputsOfAll_37 q2541 (by decide) rfl rfl ?_
      refine r_land 41 dX15_inputsOfAll_40 rfl ?_
      refine r_l2iw 42 dX15_inputsOfAll_41 rfl ?_
      refine r_istore_n 43 [(2, aI (w32 (j_lan (G 119 x1) 255))), (0, aR 100), (1, aI x1)] dX15_inputsOfAll_42 rfl rfl rfl rfl ?_
      refine r_iconst 44 0 dX15_inputsOfAll_43 rfl rfl ?_
      refine r_istore_n 45 [(3, aI 0), (2, aI (w32 (j_lan (G 119 x1) 255))), (0, aR 100), (1, aI x1)] dX15_inputsOfAll_44 rfl rfl rfl rfl ?_
      refine r_to [2, 3, 1, 0] [(0, aR 100), (1, aI x1), (2, aI (w32 (j_lan (G 119 x1) 255))), (3, aI 0)] rfl ?_
      exact sl_Tw_inputsOfAll_45 P W X12 hX12 x1 (w32 (j_lan (G 119 x1) 255)) 0 G
theorem sl_Tw_inputsOfAll_12 (P W : Int) (x1 : Int) (G : St) : SS (MTw_inputsOfAll P W) some 12 [(0, aR 100), (1, aI x1)] [] G (Tw_inputsOfAll_l12 P W x1 G) := by
  exact SS.loop (σ := Int × St) (fun s => [(0, aR 100), (1, aI (s.1))]) (fun s => s.2) (fun s => Tw_inputsOfAll_s12 P W s.1 s.2) (fun X12 hX12 s => s_Tw_inputsOfAll_s12 P W   X12 hX12 s.1 s.2) (x1, G)
theorem s_Tw_inputsOfAll (P W : Int) (G : St) : SS (MTw_inputsOfAll P W) some 0 [(0, aR 100)] [] G (Tw_inputsOfAll P W G) := by
  refine r_aload_n 1 0 dX15_inputsOfAll_0 rfl rfl rfl ?_
  refine r_iconst 2 0 dX15_inputsOfAll_1 rfl rfl ?_
  refine r_putI 5 dX15_inputsOfAll_2 fkX15_663 (fun _ => dsT_100 P W _) nn100 rfl rfl ?_
  refine ss_tk (fun G1 => ?_)
  refine r_aload_n 6 0 dX15_inputsOfAll_5 rfl rfl rfl ?_
  refine r_iconst 7 0 dX15_inputsOfAll_6 rfl rfl ?_
  refine r_putI 10 dX15_inputsOfAll_7 fkX15_618 (fun _ => dsT_100 P W _) nn100 rfl rfl ?_
  refine ss_tk (fun G2 => ?_)
  refine r_iconst 11 0 dX15_inputsOfAll_10 rfl rfl ?_
  refine r_istore_n 12 [(1, aI 0), (0, aR 100)] dX15_inputsOfAll_11 rfl rfl rfl rfl ?_
  refine r_to [1, 0] [(0, aR 100), (1, aI 0)] rfl ?_
  exact sl_Tw_inputsOfAll_12 P W 0 G2
theorem c_Tw_inputsOfAll (P W : Int) (G : St) : MG (MTw_inputsOfAll P W) [aR 100] G (Tw_inputsOfAll P W G) := MG.of plX15 (Nat.le_of_ble_eq_true rfl) (s_Tw_inputsOfAll P W G)
theorem s_Tw_levelOf (P W : Int) (x1 : Int) (G : St) : SS (MTw_levelOf P W) some 0 [(0, aR 100), (1, aI x1)] [] G (Tw_levelOf x1 G) := by
  refine r_iload_n 1 1 dX15_levelOf_0 rfl rfl rfl ?_
  refine r_iconst 2 1 dX15_levelOf_1 rfl rfl ?_
  refine r_ishr 3 dX15_levelOf_2 rfl ?_
  refine r_aload_n 4 0 dX15_levelOf_3 rfl rfl rfl ?_
  refine r_get 7 (aI (G 100 65)) dX15_levelOf_4 fkX15_618 (fun _ => dsT_100 P W _) nn100 rfl rfl ?_
  refine r_isub 8 dX15_levelOf_7 rfl ?_
  refine r_istore_n 9 [(2, aI ((j_sr x1 1) - (G 100 65))), (0, aR 100), (1, aI x1)] dX15_levelOf_8 rfl rfl rfl rfl ?_
  refine r_iload_n 10 2 dX15_levelOf_9 rfl rfl rfl ?_
  refine r_if_lt 17 13 dX15_levelOf_10 rfl rfl ?_ ?_
  · refine r_iconst 18 0 dX15_levelOf_17 rfl rfl ?_
    refine r_goto 27 dX15_levelOf_18 rfl ?_
    exact r_ireturn dX15_levelOf_27 rfl
  · refine r_iload_n 14 0 dX15_levelOf_13 rfl rfl rfl ?_
    refine r_if_ge 21 17 dX15_levelOf_14 rfl rfl ?_ ?_
    · refine r_aload_n 22 1 dX15_levelOf_21 rfl rfl rfl ?_
      refine r_get 25 (aR 173) dX15_levelOf_22 fkX15_127 (fun _ => dsT_100 P W _) nn100 rfl rfl ?_
      refine r_iload_n 26 0 dX15_levelOf_25 rfl rfl rfl ?_
      refine r_iald 27 dX15_levelOf_26 (fun _ _ _ => dsT_173 P W _) (fun _ _ => nn173) rfl ?_
      exact r_ireturn dX15_levelOf_27 rfl
    · refine r_iconst 18 0 dX15_levelOf_17 rfl rfl ?_
      refine r_goto 27 dX15_levelOf_18 rfl ?_
      exact r_ireturn dX15_levelOf_27 rfl
theorem c_Tw_levelOf (P W : Int) (x1 : Int) (G : St) : MG (MTw_levelOf P W) [aR 100, aI x1] G (Tw_levelOf x1 G) := MG.of plX15 (Nat.le_of_ble_eq_true rfl) (s_Tw_levelOf P W x1 G)
theorem s_Tw_fail (P W : Int) (x1 : Int) (x2 : Int) (G : St) : SS (MTw_fail P W) some 0 [(0, aR 100), (1, aI x1), (2, aI x2)] [] G (Tw_fail x1 x2 G) := by
  refine r_aload_n 1 0 dX15_fail_0 rfl rfl rfl ?_
  refine r_get 4 (aI (G 100 7)) dX15_fail_1 fkX15_323 (fun _ => dsT_100 P W _) nn100 rfl rfl ?_
  refine r_if_ne 17 7 dX15_fail_4 rfl rfl ?_ ?_
  · exact r_return dX15_fail_17 rfl
  · refine r_aload_n 8 0 dX15_fail_7 rfl rfl rfl ?_
    refine r_iload_n 9 1 dX15_fail_8 rfl rfl rfl ?_
    refine r_putI 12 dX15_fail_9 fkX15_323 (fun _ => dsT_100 P W _) nn100 rfl rfl ?_
    refine ss_tk (fun G1 => ?_)
    refine r_aload_n 13 0 dX15_fail_12 rfl rfl rfl ?_
    refine r_iload_n 14 2 dX15_fail_13 rfl rfl rfl ?_
    refine r_putI 17 dX15_fail_14 fkX15_313 (fun _ => dsT_100 P W _) nn100 rfl rfl ?_
    refine ss_tk (fun G2 => ?_)
    exact r_return dX15_fail_17 rfl
theorem c_Tw_fail (P W : Int) (x1 : Int) (x2 : Int) (G : St) : MG (MTw_fail P W) [aR 100, aI x1, aI x2] G (Tw_fail x1 x2 G) := MG.of plX15 (Nat.le_of_ble_eq_true rfl) (s_Tw_fail P W x1 x2 G)
theorem s_Tw_statementPlace (P W : Int) (G : St) : SS (MTw_statementPlace P W) some 0 [(0, aR 100)] [] G (Tw_statementPlace G) := by
  refine r_aload_n 1 0 dX15_statementPlace_0 rfl rfl rfl ?_
  refine r_get 4 (aI (G 100 94)) dX15_statementPlace_1 fkX15_621 (fun _ => dsT_100 P W _) nn100 rfl rfl ?_
  refine r_if_ne 11 7 dX15_statementPlace_4 rfl rfl ?_ ?_
  · refine r_aload_n 12 0 dX15_statementPlace_11 rfl rfl rfl ?_
    refine r_get 15 (aR 196) dX15_statementPlace_12 fkX15_185 (fun _ => dsT_100 P W _) nn100 rfl rfl ?_
    refine r_aload_n 16 0 dX15_statementPlace_15 rfl rfl rfl ?_
    refine r_get 19 (aI (G 100 94)) dX15_statementPlace_16 fkX15_621 (fun _ => dsT_100 P W _) nn100 rfl rfl ?_
    refine r_iconst 20 1 dX15_statementPlace_19 rfl rfl ?_
    refine r_isub 21 dX15_statementPlace_20 rfl ?_
    refine r_iald 22 dX15_statementPlace_21 (fun _ _ _ => dsT_196 P W _) (fun _ _ => nn196) rfl ?_
    exact r_ireturn dX15_statementPlace_22 rfl
  · refine r_iconst 8 0 dX15_statementPlace_7 rfl rfl ?_
    refine r_goto 22 dX15_statementPlace_8 rfl ?_
    exact r_ireturn dX15_statementPlace_22 rfl
theorem c_Tw_statementPlace (P W : Int) (G : St) : MG (MTw_statementPlace P W) [aR 100] G (Tw_statementPlace G) := MG.of plX15 (Nat.le_of_ble_eq_true rfl) (s_Tw_statementPlace P W G)
theorem s_Tw_newGate_b17 (P W : Int) (G : St) : SS (MTw_newGate P W) some 17 [(0, aR 100)] [] G (Tw_newGate_b17 G) := by
  refine r_aload_n 18 0 dX15_newGate_17 rfl rfl rfl ?_
  refine r_bipush 20 8 dX15_newGate_18 rfl rfl ?_
  refine r_aload_n 21 0 dX15_newGate_20 rfl rfl rfl ?_
  refine r_callvI 24 (Mc := MTw_statementPlace P W) (o := 100) (as := []) (st := [aI 8, aR 100]) dX15_newGate_21 rfl (c_Tw_statementPlace P W G) lkX15_627 (cmTw_statementPlace P W) rfl rfl rfl (fun _ => dsT_100 P W _) nn100 rfl (Nat.le_of_ble_eq_true rfl) (Nat.le_of_ble_eq_true rfl) (fun _ => rfl) rfl (fun z1 G2 => ?_)
  refine r_callvV 27 (Mc := MTw_fail P W) (o := 100) (as := [aI 8, aI z1]) (st := []) dX15_newGate_24 rfl (c_Tw_fail P W 8 z1 G2) lkX15_390 (cmTw_fail P W) rfl rfl rfl (fun _ => dsT_100 P W _) nn100 rfl (Nat.le_of_ble_eq_true rfl) (Nat.le_of_ble_eq_true rfl) (fun _ => rfl) rfl (fun z3 G4 => ?_)
  refine r_bipush 29 (-2) dX15_newGate_27 rfl rfl ?_
  exact r_ireturn dX15_newGate_29 rfl
theorem s_Tw_newGate_b110 (P W : Int) (s0 : Int) (G : St) : SS (MTw_newGate P W) some 110 [(0, aR 100)] [aI s0, aR 100] G (Tw_newGate_b110 s0 G) := by
  refine r_putI 113 dX15_newGate_110 fkX15_633 (fun _ => dsT_100 P W _) nn100 rfl rfl ?_
  refine ss_tk (fun G11 => ?_)
  refine r_iconst 114 2 dX15_newGate_113 rfl rfl ?_
  refine r_aload_n 115 0 dX15_newGate_114 rfl rfl rfl ?_
  refine r_get 118 (aI (G11 100 65)) dX15_newGate_115 fkX15_618 (fun _ => dsT_100 P W _) nn100 rfl rfl ?_
  refine r_aload_n 119 0 dX15_newGate_118 rfl rfl rfl ?_
  refine r_get 122 (aI (G11 100 66)) dX15_newGate_119 fkX15_624 (fun _ => dsT_100 P W _) nn100 rfl rfl ?_
  refine r_iadd 123 dX15_newGate_122 rfl ?_
  refine r_iconst 124 1 dX15_newGate_123 rfl rfl ?_
  refine r_isub 125 dX15_newGate_124 rfl ?_
  refine r_imul 126 dX15_newGate_125 rfl ?_
  exact r_ireturn dX15_newGate_126 rfl
theorem s_Tw_newGate (P W : Int) (x1 : Int) (x2 : Int) (x3 : Int) (x4 : Int) (G : St) : SS (MTw_newGate P W) some 0 [(0, aR 100), (1, aI x1), (2, aI x2), (3, aI x3), (4, aI x4)] [] G (Tw_newGate x1 x2 x3 x4 G) := by
  refine r_aload_n 1 0 dX15_newGate_0 rfl rfl rfl ?_
  refine r_get 4 (aI (G 100 66)) dX15_newGate_1 fkX15_624 (fun _ => dsT_100 P W _) nn100 rfl rfl ?_
  refine r_ldc 6 40000 dX15_newGate_4 q1839 (by decide) rfl rfl ?_
  refine r_icmp_eq 17 9 dX15_newGate_6 rfl rfl ?_ ?_
  · refine r_to [0] [(0, aR 100)] rfl ?_
    exact s_Tw_newGate_b17 P W G
  · refine r_iload 11 4 dX15_newGate_9 rfl rfl ?_
    refine r_sipush 14 2000 dX15_newGate_11 rfl rfl ?_
    refine r_icmp_le 30 17 dX15_newGate_14 rfl rfl ?_ ?_
    · refine r_aload_n 31 0 dX15_newGate_30 rfl rfl rfl ?_
      refine r_get 34 (aR 172) dX15_newGate_31 fkX15_124 (fun _ => dsT_100 P W _) nn100 rfl rfl ?_
      refine r_aload_n 35 0 dX15_newGate_34 rfl rfl rfl ?_
      refine r_get 38 (aI (G 100 66)) dX15_newGate_35 fkX15_624 (fun _ => dsT_100 P W _) nn100 rfl rfl ?_
      refine r_iload_n 39 1 dX15_newGate_38 rfl rfl rfl ?_
      refine r_iast 40 dX15_newGate_39 (fun _ _ _ => dsT_172 P W _) (fun _ _ => nn172) rfl ?_
      refine ss_tk (fun G5 => ?_)
      refine r_aload_n 41 0 dX15_newGate_40 rfl rfl rfl ?_
      refine r_get 44 (aR 173) dX15_newGate_41 fkX15_127 (fun _ => dsT_100 P W _) nn100 rfl rfl ?_
      refine r_aload_n 45 0 dX15_newGate_44 rfl rfl rfl ?_
      refine r_get 48 (aI (G5 100 66)) dX15_newGate_45 fkX15_624 (fun _ => dsT_100 P W _) nn100 rfl rfl ?_
      refine r_iload 50 4 dX15_newGate_48 rfl rfl ?_
      refine r_iast 51 dX15_newGate_50 (fun _ _ _ => dsT_173 P W _) (fun _ _ => nn173) rfl ?_
      refine ss_tk (fun G6 => ?_)
      refine r_aload_n 52 0 dX15_newGate_51 rfl rfl rfl ?_
      refine r_get 55 (aR 174) dX15_newGate_52 fkX15_130 (fun _ => dsT_100 P W _) nn100 rfl rfl ?_
      refine r_aload_n 56 0 dX15_newGate_55 rfl rfl rfl ?_
      refine r_get 59 (aI (G6 100 66)) dX15_newGate_56 fkX15_624 (fun _ => dsT_100 P W _) nn100 rfl rfl ?_
      refine r_iload_n 60 2 dX15_newGate_59 rfl rfl rfl ?_
      refine r_iast 61 dX15_newGate_60 (fun _ _ _ => dsT_174 P W _) (fun _ _ => nn174) rfl ?_
      refine ss_tk (fun G7 => ?_)
      refine r_aload_n 62 0 dX15_newGate_61 rfl rfl rfl ?_
      refine r_get 65 (aR 175) dX15_newGate_62 fkX15_133 (fun _ => dsT_100 P W _) nn100 rfl rfl ?_
      refine r_aload_n 66 0 dX15_newGate_65 rfl rfl rfl ?_
      refine r_get 69 (aI (G7 100 66)) dX15_newGate_66 fkX15_624 (fun _ => dsT_100 P W _) nn100 rfl rfl ?_
      refine r_iload_n 70 3 dX15_newGate_69 rfl rfl rfl ?_
      refine r_iast 71 dX15_newGate_70 (fun _ _ _ => dsT_175 P W _) (fun _ _ => nn175) rfl ?_
      refine ss_tk (fun G8 => ?_)
      refine r_aload_n 72 0 dX15_newGate_71 rfl rfl rfl ?_
      refine r_dup 73 dX15_newGate_72 rfl rfl ?_
      refine r_get 76 (aI (G8 100 66)) dX15_newGate_73 fkX15_624 (fun _ => dsT_100 P W _) nn100 rfl rfl ?_
      refine r_iconst 77 1 dX15_newGate_76 rfl rfl ?_
      refine r_iadd 78 dX15_newGate_77 rfl ?_
      refine r_putI 81 dX15_newGate_78 fkX15_624 (fun _ => dsT_100 P W _) nn100 rfl rfl ?_
      refine ss_tk (fun G9 => ?_)
      refine r_aload_n 82 0 dX15_newGate_81 rfl rfl rfl ?_
      refine r_dup 83 dX15_newGate_82 rfl rfl ?_
      refine r_get 86 (aI (G9 100 67)) dX15_newGate_83 fkX15_630 (fun _ => dsT_100 P W _) nn100 rfl rfl ?_
      refine r_iload_n 87 1 dX15_newGate_86 rfl rfl rfl ?_
      refine r_iadd 88 dX15_newGate_87 rfl ?_
      refine r_putI 91 dX15_newGate_88 fkX15_630 (fun _ => dsT_100 P W _) nn100 rfl rfl ?_
      refine ss_tk (fun G10 => ?_)
      refine r_aload_n 92 0 dX15_newGate_91 rfl rfl rfl ?_
      refine r_iload 94 4 dX15_newGate_92 rfl rfl ?_
      refine r_aload_n 95 0 dX15_newGate_94 rfl rfl rfl ?_
      refine r_get 98 (aI (G10 100 68)) dX15_newGate_95 fkX15_633 (fun _ => dsT_100 P W _) nn100 rfl rfl ?_
      refine SS.phi (fun VV_ => Tw_newGate_b110 VV_ G10) ?_
      refine r_icmp_le 106 101 dX15_newGate_98 rfl rfl ?_ ?_
      · refine r_aload_n 107 0 dX15_newGate_106 rfl rfl rfl ?_
        refine r_get 110 (aI (G10 100 68)) dX15_newGate_107 fkX15_633 (fun _ => dsT_100 P W _) nn100 rfl rfl ?_
        refine r_to [0] [(0, aR 100)] rfl ?_
        exact s_Tw_newGate_b110 P W (G10 100 68) G10
      · refine r_iload 103 4 dX15_newGate_101 rfl rfl ?_
        refine r_goto 110 dX15_newGate_103 rfl ?_
        refine r_to [0] [(0, aR 100)] rfl ?_
        exact s_Tw_newGate_b110 P W x4 G10
    · refine r_to [0] [(0, aR 100)] rfl ?_
      exact s_Tw_newGate_b17 P W G
theorem c_Tw_newGate (P W : Int) (x1 : Int) (x2 : Int) (x3 : Int) (x4 : Int) (G : St) : MG (MTw_newGate P W) [aR 100, aI x1, aI x2, aI x3, aI x4] G (Tw_newGate x1 x2 x3 x4 G) := MG.of plX15 (Nat.le_of_ble_eq_true rfl) (s_Tw_newGate P W x1 x2 x3 x4 G)
theorem s_Tw_and_b83 (P W : Int) (s0 : Int) (s1 : Int) (s2 : Int) (s3 : Int) (s4 : Int) (G : St) : SS (MTw_and P W) some 83 [] [aI s0, aI s1, aI s2, aI s3, aI s4, aR 100] G (Tw_and_b83 s0 s1 s2 s3 s4 G) := by
  refine r_iadd 84 dX15_and_83 rfl ?_
  refine r_callvI 87 (Mc := MTw_newGate P W) (o := 100) (as := [aI s4, aI s3, aI s2, aI (s1 + s0)]) (st := []) dX15_and_84 rfl (c_Tw_newGate P W s4 s3 s2 (s1 + s0) G) lkX15_639 (cmTw_newGate P W) rfl rfl rfl (fun _ => dsT_100 P W _) nn100 rfl (Nat.le_of_ble_eq_true rfl) (Nat.le_of_ble_eq_true rfl) (fun _ => rfl) rfl (fun z5 G6 => ?_)
  exact r_ireturn dX15_and_87 rfl
theorem s_Tw_and (P W : Int) (x1 : Int) (x2 : Int) (G : St) : SS (MTw_and P W) some 0 [(0, aR 100), (1, aI x1), (2, aI x2)] [] G (Tw_and x1 x2 G) := by
  refine r_iload_n 1 1 dX15_and_0 rfl rfl rfl ?_
  refine r_if_ge 16 4 dX15_and_1 rfl rfl ?_ ?_
  · refine r_iload_n 17 2 dX15_and_16 rfl rfl rfl ?_
    refine r_if_ge 32 20 dX15_and_17 rfl rfl ?_ ?_
    · refine r_iload_n 33 1 dX15_and_32 rfl rfl rfl ?_
      refine r_iconst 34 1 dX15_and_33 rfl rfl ?_
      refine r_ishr 35 dX15_and_34 rfl ?_
      refine r_iload_n 36 2 dX15_and_35 rfl rfl rfl ?_
      refine r_iconst 37 1 dX15_and_36 rfl rfl ?_
      refine r_ishr 38 dX15_and_37 rfl ?_
      refine r_icmp_ne 53 41 dX15_and_38 rfl rfl ?_ ?_
      · refine r_aload_n 54 0 dX15_and_53 rfl rfl rfl ?_
        refine r_iload_n 55 1 dX15_and_54 rfl rfl rfl ?_
        refine r_callvI 58 (Mc := MTw_levelOf P W) (o := 100) (as := [aI x1]) (st := []) dX15_and_55 rfl (c_Tw_levelOf P W x1 G) lkX15_636 (cmTw_levelOf P W) rfl rfl rfl (fun _ => dsT_100 P W _) nn100 rfl (Nat.le_of_ble_eq_true rfl) (Nat.le_of_ble_eq_true rfl) (fun _ => rfl) rfl (fun z1 G2 => ?_)
        refine r_istore_n 59 [(3, aI z1), (0, aR 100), (1, aI x1), (2, aI x2)] dX15_and_58 rfl rfl rfl rfl ?_
        refine r_aload_n 60 1 dX15_and_59 rfl rfl rfl ?_
        refine r_iload_n 61 3 dX15_and_60 rfl rfl rfl ?_
        refine r_callvI 64 (Mc := MTw_levelOf P W) (o := 100) (as := [aI x2]) (st := []) dX15_and_61 rfl (c_Tw_levelOf P W x2 G2) lkX15_636 (cmTw_levelOf P W) rfl rfl rfl (fun _ => dsT_100 P W _) nn100 rfl (Nat.le_of_ble_eq_true rfl) (Nat.le_of_ble_eq_true rfl) (fun _ => rfl) rfl (fun z3 G4 => ?_)
        refine r_istore 66 [(4, aI z3), (3, aI z1), (0, aR 100), (1, aI x1), (2, aI x2)] dX15_and_64 rfl rfl rfl ?_
        refine r_aload_n 67 2 dX15_and_66 rfl rfl rfl ?_
        refine r_iconst 68 1 dX15_and_67 rfl rfl ?_
        refine r_iload_n 69 3 dX15_and_68 rfl rfl rfl ?_
        refine r_iload_n 70 4 dX15_and_69 rfl rfl rfl ?_
        refine r_iconst 71 1 dX15_and_70 rfl rfl ?_
        refine r_iload_n 72 1 dX15_and_71 rfl rfl rfl ?_
        refine r_iload 74 0 dX15_and_72 rfl rfl ?_
        refine SS.phi (fun VV_ => Tw_and_b83 VV_ 1 x2 x1 1 G4) ?_
        refine r_icmp_le 81 77 dX15_and_74 rfl rfl ?_ ?_
        · refine r_iload 83 0 dX15_and_81 rfl rfl ?_
          refine r_to [] [] rfl ?_
          exact s_Tw_and_b83 P W z3 1 x2 x1 1 G4
        · refine r_iload_n 78 1 dX15_and_77 rfl rfl rfl ?_
          refine r_goto 83 dX15_and_78 rfl ?_
          refine r_to [] [] rfl ?_
          exact s_Tw_and_b83 P W z1 1 x2 x1 1 G4
      · refine r_iload_n 42 1 dX15_and_41 rfl rfl rfl ?_
        refine r_iload_n 43 2 dX15_and_42 rfl rfl rfl ?_
        refine SS.phi (fun VV_ => some (VV_, G)) ?_
        refine r_icmp_ne 50 46 dX15_and_43 rfl rfl ?_ ?_
        · refine r_bipush 52 (-2) dX15_and_50 rfl rfl ?_
          exact r_ireturn dX15_and_52 rfl
        · refine r_iload_n 47 1 dX15_and_46 rfl rfl rfl ?_
          refine r_goto 52 dX15_and_47 rfl ?_
          exact r_ireturn dX15_and_52 rfl
    · refine r_iload_n 21 2 dX15_and_20 rfl rfl rfl ?_
      refine r_iconst 22 (-1) dX15_and_21 rfl rfl ?_
      refine SS.phi (fun VV_ => some (VV_, G)) ?_
      refine r_icmp_ne 29 25 dX15_and_22 rfl rfl ?_ ?_
      · refine r_bipush 31 (-2) dX15_and_29 rfl rfl ?_
        exact r_ireturn dX15_and_31 rfl
      · refine r_iload_n 26 1 dX15_and_25 rfl rfl rfl ?_
        refine r_goto 31 dX15_and_26 rfl ?_
        exact r_ireturn dX15_and_31 rfl
  · refine r_iload_n 5 1 dX15_and_4 rfl rfl rfl ?_
    refine r_iconst 6 (-1) dX15_and_5 rfl rfl ?_
    refine SS.phi (fun VV_ => some (VV_, G)) ?_
    refine r_icmp_ne 13 9 dX15_and_6 rfl rfl ?_ ?_
    · refine r_bipush 15 (-2) dX15_and_13 rfl rfl ?_
      exact r_ireturn dX15_and_15 rfl
    · refine r_iload_n 10 2 dX15_and_9 rfl rfl rfl ?_
      refine r_goto 15 dX15_and_10 rfl ?_
      exact r_ireturn dX15_and_15 rfl
theorem c_Tw_and (P W : Int) (x1 : Int) (x2 : Int) (G : St) : MG (MTw_and P W) [aR 100, aI x1, aI x2] G (Tw_and x1 x2 G) := MG.of plX15 (Nat.le_of_ble_eq_true rfl) (s_Tw_and P W x1 x2 G)
theorem s_Tw_xor_b78 (P W : Int) (x3 : Int) (s0 : Int) (s1 : Int) (s2 : Int) (s3 : Int) (G : St) : SS (MTw_xor P W) some 78 [(3, aI x3)] [aI s0, aI s1, aI s2, aI s3, aR 100] G (Tw_xor_b78 x3 s0 s1 s2 s3 G) := by
  refine r_callvI 81 (Mc := MTw_newGate P W) (o := 100) (as := [aI s3, aI s2, aI s1, aI s0]) (st := []) dX15_xor_78 rfl (c_Tw_newGate P W s3 s2 s1 s0 G) lkX15_639 (cmTw_newGate P W) rfl rfl rfl (fun _ => dsT_100 P W _) nn100 rfl (Nat.le_of_ble_eq_true rfl) (Nat.le_of_ble_eq_true rfl) (fun _ => rfl) rfl (fun z5 G6 => ?_)
  refine r_iload_n 82 0 dX15_xor_81 rfl rfl rfl ?_
  refine r_ixor 83 dX15_xor_82 rfl ?_
  exact r_ireturn dX15_xor_83 rfl
theorem s_Tw_xor (P W : Int) (x1 : Int) (x2 : Int) (G : St) : SS (MTw_xor P W) some 0 [(0, aR 100), (1, aI x1), (2, aI x2)] [] G (Tw_xor x1 x2 G) := by
  refine r_iload_n 1 1 dX15_xor_0 rfl rfl rfl ?_
  refine r_if_ge 10 4 dX15_xor_1 rfl rfl ?_ ?_
  · refine r_iload_n 11 2 dX15_xor_10 rfl rfl rfl ?_
    refine r_if_ge 20 14 dX15_xor_11 rfl rfl ?_ ?_
    · refine r_iload_n 21 1 dX15_xor_20 rfl rfl rfl ?_
      refine r_iload_n 22 2 dX15_xor_21 rfl rfl rfl ?_
      refine r_ixor 23 dX15_xor_22 rfl ?_
      refine r_iconst 24 1 dX15_xor_23 rfl rfl ?_
      refine r_iand 25 dX15_xor_24 rfl ?_
      refine r_istore_n 26 [(3, aI (j_an (j_xo x1 x2) 1)), (0, aR 100), (1, aI x1), (2, aI x2)] dX15_xor_25 rfl rfl rfl rfl ?_
      refine r_iload_n 27 2 dX15_xor_26 rfl rfl rfl ?_
      refine r_iconst 28 1 dX15_xor_27 rfl rfl ?_
      refine r_ishr 29 dX15_xor_28 rfl ?_
      refine r_iload_n 30 3 dX15_xor_29 rfl rfl rfl ?_
      refine r_iconst 31 1 dX15_xor_30 rfl rfl ?_
      refine r_ishr 32 dX15_xor_31 rfl ?_
      refine r_icmp_ne 40 35 dX15_xor_32 rfl rfl ?_ ?_
      · refine r_aload_n 41 1 dX15_xor_40 rfl rfl rfl ?_
        refine r_iload_n 42 2 dX15_xor_41 rfl rfl rfl ?_
        refine r_callvI 45 (Mc := MTw_levelOf P W) (o := 100) (as := [aI x1]) (st := []) dX15_xor_42 rfl (c_Tw_levelOf P W x1 G) lkX15_636 (cmTw_levelOf P W) rfl rfl rfl (fun _ => dsT_100 P W _) nn100 rfl (Nat.le_of_ble_eq_true rfl) (Nat.le_of_ble_eq_true rfl) (fun _ => rfl) rfl (fun z1 G2 => ?_)
        refine r_istore 47 [(4, aI z1), (3, aI (j_an (j_xo x1 x2) 1)), (0, aR 100), (1, aI x1), (2, aI x2)] dX15_xor_45 rfl rfl rfl ?_
        refine r_aload_n 48 2 dX15_xor_47 rfl rfl rfl ?_
        refine r_iload_n 49 4 dX15_xor_48 rfl rfl rfl ?_
        refine r_callvI 52 (Mc := MTw_levelOf P W) (o := 100) (as := [aI x2]) (st := []) dX15_xor_49 rfl (c_Tw_levelOf P W x2 G2) lkX15_636 (cmTw_levelOf P W) rfl rfl rfl (fun _ => dsT_100 P W _) nn100 rfl (Nat.le_of_ble_eq_true rfl) (Nat.le_of_ble_eq_true rfl) (fun _ => rfl) rfl (fun z3 G4 => ?_)
        refine r_istore 54 [(5, aI z3), (4, aI z1), (3, aI (j_an (j_xo x1 x2) 1)), (0, aR 100), (1, aI x1), (2, aI x2)] dX15_xor_52 rfl rfl rfl ?_
        refine r_aload_n 55 3 dX15_xor_54 rfl rfl rfl ?_
        refine r_iconst 56 0 dX15_xor_55 rfl rfl ?_
        refine r_iload_n 57 4 dX15_xor_56 rfl rfl rfl ?_
        refine r_bipush 59 (-2) dX15_xor_57 rfl rfl ?_
        refine r_iand 60 dX15_xor_59 rfl ?_
        refine r_iload_n 61 5 dX15_xor_60 rfl rfl rfl ?_
        refine r_bipush 63 (-2) dX15_xor_61 rfl rfl ?_
        refine r_iand 64 dX15_xor_63 rfl ?_
        refine r_iload 66 1 dX15_xor_64 rfl rfl ?_
        refine r_iload 68 0 dX15_xor_66 rfl rfl ?_
        refine SS.phi (fun VV_ => Tw_xor_b78 (j_an (j_xo x1 x2) 1) VV_ (j_an x2 (-2)) (j_an x1 (-2)) 0 G4) ?_
        refine r_icmp_le 76 71 dX15_xor_68 rfl rfl ?_ ?_
        · refine r_iload 78 0 dX15_xor_76 rfl rfl ?_
          refine r_to [2] [(3, aI (j_an (j_xo x1 x2) 1))] rfl ?_
          exact s_Tw_xor_b78 P W (j_an (j_xo x1 x2) 1) z3 (j_an x2 (-2)) (j_an x1 (-2)) 0 G4
        · refine r_iload 73 1 dX15_xor_71 rfl rfl ?_
          refine r_goto 78 dX15_xor_73 rfl ?_
          refine r_to [2] [(3, aI (j_an (j_xo x1 x2) 1))] rfl ?_
          exact s_Tw_xor_b78 P W (j_an (j_xo x1 x2) 1) z1 (j_an x2 (-2)) (j_an x1 (-2)) 0 G4
      · refine r_bipush 37 (-2) dX15_xor_35 rfl rfl ?_
        refine r_iload_n 38 0 dX15_xor_37 rfl rfl rfl ?_
        refine r_iadd 39 dX15_xor_38 rfl ?_
        exact r_ireturn dX15_xor_39 rfl
    · refine r_iload_n 15 1 dX15_xor_14 rfl rfl rfl ?_
      refine r_iload_n 16 2 dX15_xor_15 rfl rfl rfl ?_
      refine r_iconst 17 1 dX15_xor_16 rfl rfl ?_
      refine r_iand 18 dX15_xor_17 rfl ?_
      refine r_ixor 19 dX15_xor_18 rfl ?_
      exact r_ireturn dX15_xor_19 rfl
  · refine r_iload_n 5 2 dX15_xor_4 rfl rfl rfl ?_
    refine r_iload_n 6 1 dX15_xor_5 rfl rfl rfl ?_
    refine r_iconst 7 1 dX15_xor_6 rfl rfl ?_
    refine r_iand 8 dX15_xor_7 rfl ?_
    refine r_ixor 9 dX15_xor_8 rfl ?_
    exact r_ireturn dX15_xor_9 rfl
theorem c_Tw_xor (P W : Int) (x1 : Int) (x2 : Int) (G : St) : MG (MTw_xor P W) [aR 100, aI x1, aI x2] G (Tw_xor x1 x2 G) := MG.of plX15 (Nat.le_of_ble_eq_true rfl) (s_Tw_xor P W x1 x2 G)
theorem s_Tw_mux (P W : Int) (x1 : Int) (x2 : Int) (x3 : Int) (G : St) : SS (MTw_mux P W) some 0 [(0, aR 100), (1, aI x1), (2, aI x2), (3, aI x3)] [] G (Tw_mux x1 x2 x3 G) := by
  refine r_aload_n 1 0 dX15_mux_0 rfl rfl rfl ?_
  refine r_iload_n 2 3 dX15_mux_1 rfl rfl rfl ?_
  refine r_aload_n 3 0 dX15_mux_2 rfl rfl rfl ?_
  refine r_iload_n 4 1 dX15_mux_3 rfl rfl rfl ?_
  refine r_aload_n 5 0 dX15_mux_4 rfl rfl rfl ?_
  refine r_iload_n 6 2 dX15_mux_5 rfl rfl rfl ?_
  refine r_iload_n 7 3 dX15_mux_6 rfl rfl rfl ?_
  refine r_callvI 10 (Mc := MTw_xor P W) (o := 100) (as := [aI x2, aI x3]) (st := [aI x1, aR 100, aI x3, aR 100]) dX15_mux_7 rfl (c_Tw_xor P W x2 x3 G) lkX15_642 (cmTw_xor P W) rfl rfl rfl (fun _ => dsT_100 P W _) nn100 rfl (Nat.le_of_ble_eq_true rfl) (Nat.le_of_ble_eq_true rfl) (fun _ => rfl) rfl (fun z1 G2 => ?_)
  refine r_callvI 13 (Mc := MTw_and P W) (o := 100) (as := [aI x1, aI z1]) (st := [aI x3, aR 100]) dX15_mux_10 rfl (c_Tw_and P W x1 z1 G2) lkX15_646 (cmTw_and P W) rfl rfl rfl (fun _ => dsT_100 P W _) nn100 rfl (Nat.le_of_ble_eq_true rfl) (Nat.le_of_ble_eq_true rfl) (fun _ => rfl) rfl (fun z3 G4 => ?_)
  refine r_callvI 16 (Mc := MTw_xor P W) (o := 100) (as := [aI x3, aI z3]) (st := []) dX15_mux_13 rfl (c_Tw_xor P W x3 z3 G4) lkX15_642 (cmTw_xor P W) rfl rfl rfl (fun _ => dsT_100 P W _) nn100 rfl (Nat.le_of_ble_eq_true rfl) (Nat.le_of_ble_eq_true rfl) (fun _ => rfl) rfl (fun z5 G6 => ?_)
  exact r_ireturn dX15_mux_16 rfl
theorem c_Tw_mux (P W : Int) (x1 : Int) (x2 : Int) (x3 : Int) (G : St) : MG (MTw_mux P W) [aR 100, aI x1, aI x2, aI x3] G (Tw_mux x1 x2 x3 G) := MG.of plX15 (Nat.le_of_ble_eq_true rfl) (s_Tw_mux P W x1 x2 x3 G)
theorem s_Tw_divide_s182 (P W : Int) (X42 : Int × St → Option (Int × St)) (hX42 : ∀ s, So (MTw_divide P W) 42 [(0, aR 100), (1, aI (s.1))] [] s.2 (X42 s)) (x1 : Int) (x2 : Int) (X182 : Int × St → Option (Int × St)) (hX182 : ∀ s, So (MTw_divide P W) 182 [(0, aR 100), (1, aI x1), (2, aI x2), (3, aI (s.1))] [] s.2 (X182 s)) (x3 : Int) (G : St) : SS (MTw_divide P W) (lk X182 (lk X42 some)) 182 [(0, aR 100), (1, aI x1), (2, aI x2), (3, aI x3)] [] G (Tw_divide_s182 P W x1 x2 x3 G) := by
  refine r_iload_n 183 3 dX15_divide_182 rfl rfl rfl ?_
  refine r_aload_n 184 0 dX15_divide_183 rfl rfl rfl ?_
  refine r_get 187 (aI W) dX15_divide_184 fkX15_303 (fun _ => dsT_100 P W _) nn100 rfl rfl ?_
  refine r_icmp_ge 219 190 dX15_divide_187 rfl rfl ?_ ?_
  · refine SS.ex ?_
    refine r_iinc 222 [(1, aI (x1 + (-1))), (0, aR 100), (2, aI x2), (3, aI x3)] 1 dX15_divide_219 rfl rfl rfl rfl ?_
    refine r_goto 42 dX15_divide_222 rfl ?_
    refine r_to [1, 0] [(0, aR 100), (1, aI (x1 + (-1)))] rfl ?_
    exact SS.back (hX42 (x1 + (-1), G))
  · refine r_aload_n 191 0 dX15_divide_190 rfl rfl rfl ?_
    refine r_get 194 (aR 193) dX15_divide_191 fkX15_179 (fun _ => dsT_100 P W _) nn100 rfl rfl ?_
    refine r_iload_n 195 3 dX15_divide_194 rfl rfl rfl ?_
    refine r_aload_n 196 0 dX15_divide_195 rfl rfl rfl ?_
    refine r_iload_n 197 2 dX15_divide_196 rfl rfl rfl ?_
    refine r_aload_n 198 0 dX15_divide_197 rfl rfl rfl ?_
    refine r_get 201 (aR 190) dX15_divide_198 fkX15_170 (fun _ => dsT_100 P W _) nn100 rfl rfl ?_
    refine r_iload_n 202 3 dX15_divide_201 rfl rfl rfl ?_
    refine r_iald 203 dX15_divide_202 (fun _ _ _ => dsT_190 P W _) (fun _ _ => nn190) rfl ?_
    refine r_aload_n 204 0 dX15_divide_203 rfl rfl rfl ?_
    refine r_get 207 (aR 189) dX15_divide_204 fkX15_167 (fun _ => dsT_100 P W _) nn100 rfl rfl ?_
    refine r_iload_n 208 3 dX15_divide_207 rfl rfl rfl ?_
    refine r_iald 209 dX15_divide_208 (fun _ _ _ => dsT_189 P W _) (fun _ _ => nn189) rfl ?_
    refine r_callvI 212 (Mc := MTw_mux P W) (o := 100) (as := [aI x2, aI (G 190 x3), aI (G 189 x3)]) (st := [aI x3, aR 193]) dX15_divide_209 rfl (c_Tw_mux P W x2 (G 190 x3) (G 189 x3) G) lkX15_655 (cmTw_mux P W) rfl rfl rfl (fun _ => dsT_100 P W _) nn100 rfl (Nat.le_of_ble_eq_true rfl) (Nat.le_of_ble_eq_true rfl) (fun _ => rfl) rfl (fun z4 G5 => ?_)
    refine r_iast 213 dX15_divide_212 (fun _ _ _ => dsT_193 P W _) (fun _ _ => nn193) rfl ?_
    refine ss_tk (fun G6 => ?_)
    refine r_iinc 216 [(3, aI (x3 + 1)), (0, aR 100), (1, aI x1), (2, aI x2)] 3 dX15_divide_213 rfl rfl rfl rfl ?_
    refine r_goto 182 dX15_divide_216 rfl ?_
    refine r_to [1, 2, 3, 0] [(0, aR 100), (1, aI x1), (2, aI x2), (3, aI (x3 + 1))] rfl ?_
    exact SS.back (hX182 (x3 + 1, G6))
theorem sl_Tw_divide_182 (P W : Int) (X42 : Int × St → Option (Int × St)) (hX42 : ∀ s, So (MTw_divide P W) 42 [(0, aR 100), (1, aI (s.1))] [] s.2 (X42 s)) (x1 : Int) (x2 : Int) (x3 : Int) (G : St) : SS (MTw_divide P W) (lk X42 some) 182 [(0, aR 100), (1, aI x1), (2, aI x2), (3, aI x3)] [] G (Tw_divide_l182 P W x1 x2 x3 G) := by
  exact SS.loop (σ := Int × St) (fun s => [(0, aR 100), (1, aI x1), (2, aI x2), (3, aI (s.1))]) (fun s => s.2) (fun s => Tw_divide_s182 P W x1 x2 s.1 s.2) (fun X182 hX182 s => s_Tw_divide_s182 P W X42 hX42 x1 x2  X182 hX182 s.1 s.2) (x3, G)
theorem s_Tw_divide_b140 (P W : Int) (X42 : Int × St → Option (Int × St)) (hX42 : ∀ s, So (MTw_divide P W) 42 [(0, aR 100), (1, aI (s.1))] [] s.2 (X42 s)) (x1 : Int) (X91 : Int × Int × St → Option (Int × St)) (hX91 : ∀ s, So (MTw_divide P W) 91 [(0, aR 100), (1, aI x1), (2, aI (s.1)), (3, aI (s.2.1))] [] s.2.2 (X91 s)) (x2 : Int) (x3 : Int) (x4 : Int) (G : St) : SS (MTw_divide P W) (lk X91 (lk X42 some)) 140 [(0, aR 100), (1, aI x1), (2, aI x2), (3, aI x3), (4, aI x4)] [] G (Tw_divide_b140 P W x1 x2 x3 x4 G) := by
  refine r_aload_n 141 0 dX15_divide_140 rfl rfl rfl ?_
  refine r_aload_n 142 0 dX15_divide_141 rfl rfl rfl ?_
  refine r_get 145 (aR 189) dX15_divide_142 fkX15_167 (fun _ => dsT_100 P W _) nn100 rfl rfl ?_
  refine r_iload_n 146 3 dX15_divide_145 rfl rfl rfl ?_
  refine r_iald 147 dX15_divide_146 (fun _ _ _ => dsT_189 P W _) (fun _ _ => nn189) rfl ?_
  refine r_iload_n 148 2 dX15_divide_147 rfl rfl rfl ?_
  refine r_callvI 151 (Mc := MTw_xor P W) (o := 100) (as := [aI (G 189 x3), aI x2]) (st := []) dX15_divide_148 rfl (c_Tw_xor P W (G 189 x3) x2 G) lkX15_642 (cmTw_xor P W) rfl rfl rfl (fun _ => dsT_100 P W _) nn100 rfl (Nat.le_of_ble_eq_true rfl) (Nat.le_of_ble_eq_true rfl) (fun _ => rfl) rfl (fun z9 G10 => ?_)
  refine r_istore 153 [(5, aI z9), (0, aR 100), (1, aI x1), (2, aI x2), (3, aI x3), (4, aI x4)] dX15_divide_151 rfl rfl rfl ?_
  refine r_aload_n 154 1 dX15_divide_153 rfl rfl rfl ?_
  refine r_iload_n 155 3 dX15_divide_154 rfl rfl rfl ?_
  refine r_aload_n 156 1 dX15_divide_155 rfl rfl rfl ?_
  refine r_iload 158 0 dX15_divide_156 rfl rfl ?_
  refine r_iload 160 5 dX15_divide_158 rfl rfl ?_
  refine r_callvI 163 (Mc := MTw_and P W) (o := 100) (as := [aI z9, aI x4]) (st := [aI x2, aR 100]) dX15_divide_160 rfl (c_Tw_and P W z9 x4 G10) lkX15_646 (cmTw_and P W) rfl rfl rfl (fun _ => dsT_100 P W _) nn100 rfl (Nat.le_of_ble_eq_true rfl) (Nat.le_of_ble_eq_true rfl) (fun _ => rfl) rfl (fun z11 G12 => ?_)
  refine r_callvI 166 (Mc := MTw_xor P W) (o := 100) (as := [aI x2, aI z11]) (st := []) dX15_divide_163 rfl (c_Tw_xor P W x2 z11 G12) lkX15_642 (cmTw_xor P W) rfl rfl rfl (fun _ => dsT_100 P W _) nn100 rfl (Nat.le_of_ble_eq_true rfl) (Nat.le_of_ble_eq_true rfl) (fun _ => rfl) rfl (fun z13 G14 => ?_)
  refine r_istore_n 167 [(2, aI z13), (5, aI z9), (0, aR 100), (1, aI x1), (3, aI x3), (4, aI x4)] dX15_divide_166 rfl rfl rfl rfl ?_
  refine r_iinc 170 [(3, aI (x3 + 1)), (2, aI z13), (5, aI z9), (0, aR 100), (1, aI x1), (4, aI x4)] 4 dX15_divide_167 rfl rfl rfl rfl ?_
  refine r_goto 91 dX15_divide_170 rfl ?_
  refine r_to [3, 4, 1, 0] [(0, aR 100), (1, aI x1), (2, aI z13), (3, aI (x3 + 1))] rfl ?_
  exact SS.back (hX91 (z13, x3 + 1, G14))
theorem s_Tw_divide_s91 (P W : Int) (X42 : Int × St → Option (Int × St)) (hX42 : ∀ s, So (MTw_divide P W) 42 [(0, aR 100), (1, aI (s.1))] [] s.2 (X42 s)) (x1 : Int) (X91 : Int × Int × St → Option (Int × St)) (hX91 : ∀ s, So (MTw_divide P W) 91 [(0, aR 100), (1, aI x1), (2, aI (s.1)), (3, aI (s.2.1))] [] s.2.2 (X91 s)) (x2 : Int) (x3 : Int) (G : St) : SS (MTw_divide P W) (lk X91 (lk X42 some)) 91 [(0, aR 100), (1, aI x1), (2, aI x2), (3, aI x3)] [] G (Tw_divide_s91 P W x1 x2 x3 G) := by
  refine r_iload_n 92 3 dX15_divide_91 rfl rfl rfl ?_
  refine r_aload_n 93 0 dX15_divide_92 rfl rfl rfl ?_
  refine r_get 96 (aI W) dX15_divide_93 fkX15_303 (fun _ => dsT_100 P W _) nn100 rfl rfl ?_
  refine r_icmp_gt 173 99 dX15_divide_96 rfl rfl ?_ ?_
  · refine SS.ex ?_
    refine r_aload_n 174 0 dX15_divide_173 rfl rfl rfl ?_
    refine r_get 177 (aR 194) dX15_divide_174 fkX15_182 (fun _ => dsT_100 P W _) nn100 rfl rfl ?_
    refine r_iload_n 178 1 dX15_divide_177 rfl rfl rfl ?_
    refine r_iload_n 179 2 dX15_divide_178 rfl rfl rfl ?_
    refine r_iast 180 dX15_divide_179 (fun _ _ _ => dsT_194 P W _) (fun _ _ => nn194) rfl ?_
    refine ss_tk (fun G3 => ?_)
    refine r_iconst 181 0 dX15_divide_180 rfl rfl ?_
    refine r_istore_n 182 [(3, aI 0), (0, aR 100), (1, aI x1), (2, aI x2)] dX15_divide_181 rfl rfl rfl rfl ?_
    refine r_to [1, 2, 3, 0] [(0, aR 100), (1, aI x1), (2, aI x2), (3, aI 0)] rfl ?_
    exact sl_Tw_divide_182 P W X42 hX42 x1 x2 0 G3
  · refine r_aload_n 100 0 dX15_divide_99 rfl rfl rfl ?_
    refine r_aload_n 101 0 dX15_divide_100 rfl rfl rfl ?_
    refine r_get 104 (aR 188) dX15_divide_101 fkX15_164 (fun _ => dsT_100 P W _) nn100 rfl rfl ?_
    refine r_iload_n 105 3 dX15_divide_104 rfl rfl rfl ?_
    refine r_iald 106 dX15_divide_105 (fun _ _ _ => dsT_188 P W _) (fun _ _ => nn188) rfl ?_
    refine r_iconst 107 1 dX15_divide_106 rfl rfl ?_
    refine r_ixor 108 dX15_divide_107 rfl ?_
    refine r_iload_n 109 2 dX15_divide_108 rfl rfl rfl ?_
    refine r_callvI 112 (Mc := MTw_xor P W) (o := 100) (as := [aI (j_xo (G 188 x3) 1), aI x2]) (st := []) dX15_divide_109 rfl (c_Tw_xor P W (j_xo (G 188 x3) 1) x2 G) lkX15_642 (cmTw_xor P W) rfl rfl rfl (fun _ => dsT_100 P W _) nn100 rfl (Nat.le_of_ble_eq_true rfl) (Nat.le_of_ble_eq_true rfl) (fun _ => rfl) rfl (fun z7 G8 => ?_)
    refine r_istore 114 [(4, aI z7), (0, aR 100), (1, aI x1), (2, aI x2), (3, aI x3)] dX15_divide_112 rfl rfl rfl ?_
    refine r_iload_n 115 4 dX15_divide_114 rfl rfl rfl ?_
    refine r_aload_n 116 1 dX15_divide_115 rfl rfl rfl ?_
    refine r_get 119 (aI W) dX15_divide_116 fkX15_303 (fun _ => dsT_100 P W _) nn100 rfl rfl ?_
    refine r_icmp_ge 140 122 dX15_divide_119 rfl rfl ?_ ?_
    · refine r_to [1, 2, 3, 4, 0] [(0, aR 100), (1, aI x1), (2, aI x2), (3, aI x3), (4, aI z7)] rfl ?_
      exact s_Tw_divide_b140 P W X42 hX42 x1 X91 hX91 x2 x3 z7 G8
    · refine r_aload_n 123 1 dX15_divide_122 rfl rfl rfl ?_
      refine r_get 126 (aR 190) dX15_divide_123 fkX15_170 (fun _ => dsT_100 P W _) nn100 rfl rfl ?_
      refine r_iload_n 127 4 dX15_divide_126 rfl rfl rfl ?_
      refine r_aload_n 128 1 dX15_divide_127 rfl rfl rfl ?_
      refine r_aload_n 129 1 dX15_divide_128 rfl rfl rfl ?_
      refine r_get 132 (aR 189) dX15_divide_129 fkX15_167 (fun _ => dsT_100 P W _) nn100 rfl rfl ?_
      refine r_iload_n 133 4 dX15_divide_132 rfl rfl rfl ?_
      refine r_iald 134 dX15_divide_133 (fun _ _ _ => dsT_189 P W _) (fun _ _ => nn189) rfl ?_
      refine r_iload 136 0 dX15_divide_134 rfl rfl ?_
      refine r_callvI 139 (Mc := MTw_xor P W) (o := 100) (as := [aI (G8 189 x3), aI z7]) (st := [aI x3, aR 190]) dX15_divide_136 rfl (c_Tw_xor P W (G8 189 x3) z7 G8) lkX15_642 (cmTw_xor P W) rfl rfl rfl (fun _ => dsT_100 P W _) nn100 rfl (Nat.le_of_ble_eq_true rfl) (Nat.le_of_ble_eq_true rfl) (fun _ => rfl) rfl (fun z15 G16 => ?_)
      refine r_iast 140 dX15_divide_139 (fun _ _ _ => dsT_190 P W _) (fun _ _ => nn190) rfl ?_
      refine ss_tk (fun G17 => ?_)
      refine r_to [1, 2, 3, 4, 0] [(0, aR 100), (1, aI x1), (2, aI x2), (3, aI x3), (4, aI z7)] rfl ?_
      exact s_Tw_divide_b140 P W X42 hX42 x1 X91 hX91 x2 x3 z7 G17
theorem sl_Tw_divide_91 (P W : Int) (X42 : Int × St → Option (Int × St)) (hX42 : ∀ s, So (MTw_divide P W) 42 [(0, aR 100), (1, aI (s.1))] [] s.2 (X42 s)) (x1 : Int) (x2 : Int) (x3 : Int) (G : St) : SS (MTw_divide P W) (lk X42 some) 91 [(0, aR 100), (1, aI x1), (2, aI x2), (3, aI x3)] [] G (Tw_divide_l91 P W x1 x2 x3 G) := by
  exact SS.loop (σ := Int × Int × St) (fun s => [(0, aR 100), (1, aI x1), (2, aI (s.1)), (3, aI (s.2.1))]) (fun s => s.2.2) (fun s => Tw_divide_s91 P W x1 s.1 s.2.1 s.2.2) (fun X91 hX91 s => s_Tw_divide_s91 P W X42 hX42 x1  X91 hX91 s.1 s.2.1 s.2.2) (x2, x3, G)
theorem s_Tw_divide_s51 (P W : Int) (X42 : Int × St → Option (Int × St)) (hX42 : ∀ s, So (MTw_divide P W) 42 [(0, aR 100), (1, aI (s.1))] [] s.2 (X42 s)) (x1 : Int) (X51 : Int × St → Option (Int × St)) (hX51 : ∀ s, So (MTw_divide P W) 51 [(0, aR 100), (1, aI x1), (2, aI (s.1))] [] s.2 (X51 s)) (x2 : Int) (G : St) : SS (MTw_divide P W) (lk X51 (lk X42 some)) 51 [(0, aR 100), (1, aI x1), (2, aI x2)] [] G (Tw_divide_s51 P W x1 x2 G) := by
  refine r_iload_n 52 2 dX15_divide_51 rfl rfl rfl ?_
  refine r_if_le 75 55 dX15_divide_52 rfl rfl ?_ ?_
  · refine SS.ex ?_
    refine r_aload_n 76 0 dX15_divide_75 rfl rfl rfl ?_
    refine r_get 79 (aR 189) dX15_divide_76 fkX15_167 (fun _ => dsT_100 P W _) nn100 rfl rfl ?_
    refine r_iconst 80 0 dX15_divide_79 rfl rfl ?_
    refine r_aload_n 81 0 dX15_divide_80 rfl rfl rfl ?_
    refine r_get 84 (aR 187) dX15_divide_81 fkX15_161 (fun _ => dsT_100 P W _) nn100 rfl rfl ?_
    refine r_iload_n 85 1 dX15_divide_84 rfl rfl rfl ?_
    refine r_iald 86 dX15_divide_85 (fun _ _ _ => dsT_187 P W _) (fun _ _ => nn187) rfl ?_
    refine r_iast 87 dX15_divide_86 (fun _ _ _ => dsT_189 P W _) (fun _ _ => nn189) rfl ?_
    refine ss_tk (fun G2 => ?_)
    refine r_iconst 88 (-1) dX15_divide_87 rfl rfl ?_
    refine r_istore_n 89 [(2, aI (-1)), (0, aR 100), (1, aI x1)] dX15_divide_88 rfl rfl rfl rfl ?_
    refine r_iconst 90 0 dX15_divide_89 rfl rfl ?_
    refine r_istore_n 91 [(3, aI 0), (2, aI (-1)), (0, aR 100), (1, aI x1)] dX15_divide_90 rfl rfl rfl rfl ?_
    refine r_to [2, 3, 1, 0] [(0, aR 100), (1, aI x1), (2, aI (-1)), (3, aI 0)] rfl ?_
    exact sl_Tw_divide_91 P W X42 hX42 x1 (-1) 0 G2
  · refine r_aload_n 56 0 dX15_divide_55 rfl rfl rfl ?_
    refine r_get 59 (aR 189) dX15_divide_56 fkX15_167 (fun _ => dsT_100 P W _) nn100 rfl rfl ?_
    refine r_iload_n 60 2 dX15_divide_59 rfl rfl rfl ?_
    refine r_aload_n 61 0 dX15_divide_60 rfl rfl rfl ?_
    refine r_get 64 (aR 193) dX15_divide_61 fkX15_179 (fun _ => dsT_100 P W _) nn100 rfl rfl ?_
    refine r_iload_n 65 2 dX15_divide_64 rfl rfl rfl ?_
    refine r_iconst 66 1 dX15_divide_65 rfl rfl ?_
    refine r_isub 67 dX15_divide_66 rfl ?_
    refine r_iald 68 dX15_divide_67 (fun _ _ _ => dsT_193 P W _) (fun _ _ => nn193) rfl ?_
    refine r_iast 69 dX15_divide_68 (fun _ _ _ => dsT_189 P W _) (fun _ _ => nn189) rfl ?_
    refine ss_tk (fun G18 => ?_)
    refine r_iinc 72 [(2, aI (x2 + (-1))), (0, aR 100), (1, aI x1)] 2 dX15_divide_69 rfl rfl rfl rfl ?_
    refine r_goto 51 dX15_divide_72 rfl ?_
    refine r_to [1, 2, 0] [(0, aR 100), (1, aI x1), (2, aI (x2 + (-1)))] rfl ?_
    exact SS.back (hX51 (x2 + (-1), G18))
theorem sl_Tw_divide_51 (P W : Int) (X42 : Int × St → Option (Int × St)) (hX42 : ∀ s, So (MTw_divide P W) 42 [(0, aR 100), (1, aI (s.1))] [] s.2 (X42 s)) (x1 : Int) (x2 : Int) (G : St) : SS (MTw_divide P W) (lk X42 some) 51 [(0, aR 100), (1, aI x1), (2, aI x2)] [] G (Tw_divide_l51 P W x1 x2 G) := by
  exact SS.loop (σ := Int × St) (fun s => [(0, aR 100), (1, aI x1), (2, aI (s.1))]) (fun s => s.2) (fun s => Tw_divide_s51 P W x1 s.1 s.2) (fun X51 hX51 s => s_Tw_divide_s51 P W X42 hX42 x1  X51 hX51 s.1 s.2) (x2, G)
theorem s_Tw_divide_s42 (P W : Int) (X42 : Int × St → Option (Int × St)) (hX42 : ∀ s, So (MTw_divide P W) 42 [(0, aR 100), (1, aI (s.1))] [] s.2 (X42 s)) (x1 : Int) (G : St) : SS (MTw_divide P W) (lk X42 some) 42 [(0, aR 100), (1, aI x1)] [] G (Tw_divide_s42 P W x1 G) := by
  refine r_iload_n 43 1 dX15_divide_42 rfl rfl rfl ?_
  refine r_if_lt 225 46 dX15_divide_43 rfl rfl ?_ ?_
  · refine SS.ex ?_
    exact r_return dX15_divide_225 rfl
  · refine r_aload_n 47 0 dX15_divide_46 rfl rfl rfl ?_
    refine r_get 50 (aI W) dX15_divide_47 fkX15_303 (fun _ => dsT_100 P W _) nn100 rfl rfl ?_
    refine r_istore_n 51 [(2, aI W), (0, aR 100), (1, aI x1)] dX15_divide_50 rfl rfl rfl rfl ?_
    refine r_to [1, 2, 0] [(0, aR 100), (1, aI x1), (2, aI W)] rfl ?_
    exact sl_Tw_divide_51 P W X42 hX42 x1 W G
theorem sl_Tw_divide_42 (P W : Int) (x1 : Int) (G : St) : SS (MTw_divide P W) some 42 [(0, aR 100), (1, aI x1)] [] G (Tw_divide_l42 P W x1 G) := by
  exact SS.loop (σ := Int × St) (fun s => [(0, aR 100), (1, aI (s.1))]) (fun s => s.2) (fun s => Tw_divide_s42 P W s.1 s.2) (fun X42 hX42 s => s_Tw_divide_s42 P W   X42 hX42 s.1 s.2) (x1, G)
theorem s_Tw_divide_s2 (P W : Int) (X2 : Int × St → Option (Int × St)) (hX2 : ∀ s, So (MTw_divide P W) 2 [(0, aR 100), (1, aI (s.1))] [] s.2 (X2 s)) (x1 : Int) (G : St) : SS (MTw_divide P W) (lk X2 some) 2 [(0, aR 100), (1, aI x1)] [] G (Tw_divide_s2 P W x1 G) := by
  refine r_iload_n 3 1 dX15_divide_2 rfl rfl rfl ?_
  refine r_aload_n 4 0 dX15_divide_3 rfl rfl rfl ?_
  refine r_get 7 (aI W) dX15_divide_4 fkX15_303 (fun _ => dsT_100 P W _) nn100 rfl rfl ?_
  refine r_icmp_gt 24 10 dX15_divide_7 rfl rfl ?_ ?_
  · refine SS.ex ?_
    refine r_aload_n 25 0 dX15_divide_24 rfl rfl rfl ?_
    refine r_get 28 (aR 188) dX15_divide_25 fkX15_164 (fun _ => dsT_100 P W _) nn100 rfl rfl ?_
    refine r_aload_n 29 0 dX15_divide_28 rfl rfl rfl ?_
    refine r_get 32 (aI W) dX15_divide_29 fkX15_303 (fun _ => dsT_100 P W _) nn100 rfl rfl ?_
    refine r_bipush 34 (-2) dX15_divide_32 rfl rfl ?_
    refine r_iast 35 dX15_divide_34 (fun _ _ _ => dsT_188 P W _) (fun _ _ => nn188) rfl ?_
    refine ss_tk (fun G1 => ?_)
    refine r_aload_n 36 0 dX15_divide_35 rfl rfl rfl ?_
    refine r_get 39 (aI W) dX15_divide_36 fkX15_303 (fun _ => dsT_100 P W _) nn100 rfl rfl ?_
    refine r_iconst 40 1 dX15_divide_39 rfl rfl ?_
    refine r_isub 41 dX15_divide_40 rfl ?_
    refine r_istore_n 42 [(1, aI (W - 1)), (0, aR 100)] dX15_divide_41 rfl rfl rfl rfl ?_
    refine r_to [1, 0] [(0, aR 100), (1, aI (W - 1))] rfl ?_
    exact sl_Tw_divide_42 P W (W - 1) G1
  · refine r_aload_n 11 0 dX15_divide_10 rfl rfl rfl ?_
    refine r_get 14 (aR 193) dX15_divide_11 fkX15_179 (fun _ => dsT_100 P W _) nn100 rfl rfl ?_
    refine r_iload_n 15 1 dX15_divide_14 rfl rfl rfl ?_
    refine r_bipush 17 (-2) dX15_divide_15 rfl rfl ?_
    refine r_iast 18 dX15_divide_17 (fun _ _ _ => dsT_193 P W _) (fun _ _ => nn193) rfl ?_
    refine ss_tk (fun G19 => ?_)
    refine r_iinc 21 [(1, aI (x1 + 1)), (0, aR 100)] 1 dX15_divide_18 rfl rfl rfl rfl ?_
    refine r_goto 2 dX15_divide_21 rfl ?_
    refine r_to [1, 0] [(0, aR 100), (1, aI (x1 + 1))] rfl ?_
    exact SS.back (hX2 (x1 + 1, G19))
theorem sl_Tw_divide_2 (P W : Int) (x1 : Int) (G : St) : SS (MTw_divide P W) some 2 [(0, aR 100), (1, aI x1)] [] G (Tw_divide_l2 P W x1 G) := by
  exact SS.loop (σ := Int × St) (fun s => [(0, aR 100), (1, aI (s.1))]) (fun s => s.2) (fun s => Tw_divide_s2 P W s.1 s.2) (fun X2 hX2 s => s_Tw_divide_s2 P W   X2 hX2 s.1 s.2) (x1, G)
theorem s_Tw_divide (P W : Int) (G : St) : SS (MTw_divide P W) some 0 [(0, aR 100)] [] G (Tw_divide P W G) := by
  refine r_iconst 1 0 dX15_divide_0 rfl rfl ?_
  refine r_istore_n 2 [(1, aI 0), (0, aR 100)] dX15_divide_1 rfl rfl rfl rfl ?_
  refine r_to [1, 0] [(0, aR 100), (1, aI 0)] rfl ?_
  exact sl_Tw_divide_2 P W 0 G
theorem c_Tw_divide (P W : Int) (G : St) : MG (MTw_divide P W) [aR 100] G (Tw_divide P W G) := MG.of plX15 (Nat.le_of_ble_eq_true rfl) (s_Tw_divide P W G)
theorem s_Tw_equal_b98 (P W : Int) (X39 : Int × St → Option (Int × St)) (hX39 : ∀ s, So (MTw_equal P W) 39 [(0, aR 100), (2, aI (s.1))] [] s.2 (X39 s)) (x2 : Int) (X49 : Int × Int × St → Option (Int × St)) (hX49 : ∀ s, So (MTw_equal P W) 49 [(0, aR 100), (2, aI x2), (3, aI (s.1)), (4, aI (s.2.1))] [] s.2.2 (X49 s)) (x3 : Int) (x4 : Int) (s0 : Int) (s1 : Int) (G : St) : SS (MTw_equal P W) (lk X49 (lk X39 some)) 98 [(0, aR 100), (2, aI x2), (3, aI x3), (4, aI x4)] [aI s0, aI s1, aR 190] G (Tw_equal_b98 x2 x3 x4 s0 s1 G) := by
  refine r_iast 99 dX15_equal_98 (fun _ _ _ => dsT_190 P W _) (fun _ _ => nn190) rfl ?_
  refine ss_tk (fun G1 => ?_)
  refine r_iinc 102 [(3, aI (x3 + 1)), (0, aR 100), (2, aI x2), (4, aI x4)] 2 dX15_equal_99 rfl rfl rfl rfl ?_
  refine r_iinc 105 [(4, aI (x4 + 2)), (3, aI (x3 + 1)), (0, aR 100), (2, aI x2)] 3 dX15_equal_102 rfl rfl rfl rfl ?_
  refine r_goto 49 dX15_equal_105 rfl ?_
  refine r_to [2, 3, 1, 0] [(0, aR 100), (2, aI x2), (3, aI (x3 + 1)), (4, aI (x4 + 2))] rfl ?_
  exact SS.back (hX49 (x3 + 1, x4 + 2, G1))
theorem s_Tw_equal_s49 (P W : Int) (X39 : Int × St → Option (Int × St)) (hX39 : ∀ s, So (MTw_equal P W) 39 [(0, aR 100), (2, aI (s.1))] [] s.2 (X39 s)) (x2 : Int) (X49 : Int × Int × St → Option (Int × St)) (hX49 : ∀ s, So (MTw_equal P W) 49 [(0, aR 100), (2, aI x2), (3, aI (s.1)), (4, aI (s.2.1))] [] s.2.2 (X49 s)) (x3 : Int) (x4 : Int) (G : St) : SS (MTw_equal P W) (lk X49 (lk X39 some)) 49 [(0, aR 100), (2, aI x2), (3, aI x3), (4, aI x4)] [] G (Tw_equal_s49 x2 x3 x4 G) := by
  refine r_iload 51 3 dX15_equal_49 rfl rfl ?_
  refine r_iload_n 52 1 dX15_equal_51 rfl rfl rfl ?_
  refine r_icmp_ge 108 55 dX15_equal_52 rfl rfl ?_ ?_
  · refine SS.ex ?_
    refine r_iload_n 109 2 dX15_equal_108 rfl rfl rfl ?_
    refine r_istore_n 110 [(2, aI x3), (0, aR 100), (3, aI x3), (4, aI x4)] dX15_equal_109 rfl rfl rfl rfl ?_
    refine r_goto 39 dX15_equal_110 rfl ?_
    refine r_to [1, 0] [(0, aR 100), (2, aI x3)] rfl ?_
    exact SS.back (hX39 (x3, G))
  · refine r_aload_n 56 0 dX15_equal_55 rfl rfl rfl ?_
    refine r_get 59 (aR 190) dX15_equal_56 fkX15_170 (fun _ => dsT_100 P W _) nn100 rfl rfl ?_
    refine r_iload_n 60 2 dX15_equal_59 rfl rfl rfl ?_
    refine r_iload 62 3 dX15_equal_60 rfl rfl ?_
    refine r_iconst 63 1 dX15_equal_62 rfl rfl ?_
    refine r_iadd 64 dX15_equal_63 rfl ?_
    refine r_iload_n 65 1 dX15_equal_64 rfl rfl rfl ?_
    refine r_icmp_ge 91 68 dX15_equal_65 rfl rfl ?_ ?_
    · refine r_aload_n 92 0 dX15_equal_91 rfl rfl rfl ?_
      refine r_get 95 (aR 190) dX15_equal_92 fkX15_170 (fun _ => dsT_100 P W _) nn100 rfl rfl ?_
      refine r_iload 97 3 dX15_equal_95 rfl rfl ?_
      refine r_iald 98 dX15_equal_97 (fun _ _ _ => dsT_190 P W _) (fun _ _ => nn190) rfl ?_
      exact s_Tw_equal_b98 P W X39 hX39 x2 X49 hX49 x3 x4 (G 190 x4) x3 G
    · refine r_aload_n 69 0 dX15_equal_68 rfl rfl rfl ?_
      refine r_aload_n 70 0 dX15_equal_69 rfl rfl rfl ?_
      refine r_get 73 (aR 190) dX15_equal_70 fkX15_170 (fun _ => dsT_100 P W _) nn100 rfl rfl ?_
      refine r_iload 75 3 dX15_equal_73 rfl rfl ?_
      refine r_iald 76 dX15_equal_75 (fun _ _ _ => dsT_190 P W _) (fun _ _ => nn190) rfl ?_
      refine r_aload_n 77 0 dX15_equal_76 rfl rfl rfl ?_
      refine r_get 80 (aR 190) dX15_equal_77 fkX15_170 (fun _ => dsT_100 P W _) nn100 rfl rfl ?_
      refine r_iload 82 3 dX15_equal_80 rfl rfl ?_
      refine r_iconst 83 1 dX15_equal_82 rfl rfl ?_
      refine r_iadd 84 dX15_equal_83 rfl ?_
      refine r_iald 85 dX15_equal_84 (fun _ _ _ => dsT_190 P W _) (fun _ _ => nn190) rfl ?_
      refine r_callvI 88 (Mc := MTw_and P W) (o := 100) (as := [aI (G 190 x4), aI (G 190 (x4 + 1))]) (st := [aI x3, aR 190]) dX15_equal_85 rfl (c_Tw_and P W (G 190 x4) (G 190 (x4 + 1)) G) lkX15_646 (cmTw_and P W) rfl rfl rfl (fun _ => dsT_100 P W _) nn100 rfl (Nat.le_of_ble_eq_true rfl) (Nat.le_of_ble_eq_true rfl) (fun _ => rfl) rfl (fun z2 G3 => ?_)
      refine r_goto 98 dX15_equal_88 rfl ?_
      exact s_Tw_equal_b98 P W X39 hX39 x2 X49 hX49 x3 x4 z2 x3 G3
theorem sl_Tw_equal_49 (P W : Int) (X39 : Int × St → Option (Int × St)) (hX39 : ∀ s, So (MTw_equal P W) 39 [(0, aR 100), (2, aI (s.1))] [] s.2 (X39 s)) (x2 : Int) (x3 : Int) (x4 : Int) (G : St) : SS (MTw_equal P W) (lk X39 some) 49 [(0, aR 100), (2, aI x2), (3, aI x3), (4, aI x4)] [] G (Tw_equal_l49 x2 x3 x4 G) := by
  exact SS.loop (σ := Int × Int × St) (fun s => [(0, aR 100), (2, aI x2), (3, aI (s.1)), (4, aI (s.2.1))]) (fun s => s.2.2) (fun s => Tw_equal_s49 x2 s.1 s.2.1 s.2.2) (fun X49 hX49 s => s_Tw_equal_s49 P W X39 hX39 x2  X49 hX49 s.1 s.2.1 s.2.2) (x3, x4, G)
theorem s_Tw_equal_s39 (P W : Int) (X39 : Int × St → Option (Int × St)) (hX39 : ∀ s, So (MTw_equal P W) 39 [(0, aR 100), (2, aI (s.1))] [] s.2 (X39 s)) (x2 : Int) (G : St) : SS (MTw_equal P W) (lk X39 some) 39 [(0, aR 100), (2, aI x2)] [] G (Tw_equal_s39 x2 G) := by
  refine r_iload_n 40 1 dX15_equal_39 rfl rfl rfl ?_
  refine r_iconst 41 1 dX15_equal_40 rfl rfl ?_
  refine r_icmp_le 113 44 dX15_equal_41 rfl rfl ?_ ?_
  · refine SS.ex ?_
    refine r_aload_n 114 0 dX15_equal_113 rfl rfl rfl ?_
    refine r_get 117 (aR 190) dX15_equal_114 fkX15_170 (fun _ => dsT_100 P W _) nn100 rfl rfl ?_
    refine r_iconst 118 0 dX15_equal_117 rfl rfl ?_
    refine r_iald 119 dX15_equal_118 (fun _ _ _ => dsT_190 P W _) (fun _ _ => nn190) rfl ?_
    exact r_ireturn dX15_equal_119 rfl
  · refine r_iconst 45 0 dX15_equal_44 rfl rfl ?_
    refine r_istore_n 46 [(3, aI 0), (0, aR 100), (2, aI x2)] dX15_equal_45 rfl rfl rfl rfl ?_
    refine r_iconst 47 0 dX15_equal_46 rfl rfl ?_
    refine r_istore 49 [(4, aI 0), (3, aI 0), (0, aR 100), (2, aI x2)] dX15_equal_47 rfl rfl rfl ?_
    refine r_to [2, 3, 1, 0] [(0, aR 100), (2, aI x2), (3, aI 0), (4, aI 0)] rfl ?_
    exact sl_Tw_equal_49 P W X39 hX39 x2 0 0 G
theorem sl_Tw_equal_39 (P W : Int) (x2 : Int) (G : St) : SS (MTw_equal P W) some 39 [(0, aR 100), (2, aI x2)] [] G (Tw_equal_l39 x2 G) := by
  exact SS.loop (σ := Int × St) (fun s => [(0, aR 100), (2, aI (s.1))]) (fun s => s.2) (fun s => Tw_equal_s39 s.1 s.2) (fun X39 hX39 s => s_Tw_equal_s39 P W   X39 hX39 s.1 s.2) (x2, G)
theorem s_Tw_equal_s2 (P W : Int) (x1 : Int) (X2 : Int × St → Option (Int × St)) (hX2 : ∀ s, So (MTw_equal P W) 2 [(0, aR 100), (1, aI x1), (2, aI (s.1))] [] s.2 (X2 s)) (x2 : Int) (G : St) : SS (MTw_equal P W) (lk X2 some) 2 [(0, aR 100), (1, aI x1), (2, aI x2)] [] G (Tw_equal_s2 x1 x2 G) := by
  refine r_iload_n 3 2 dX15_equal_2 rfl rfl rfl ?_
  refine r_iload_n 4 1 dX15_equal_3 rfl rfl rfl ?_
  refine r_icmp_ge 37 7 dX15_equal_4 rfl rfl ?_ ?_
  · refine SS.ex ?_
    refine r_iload_n 38 1 dX15_equal_37 rfl rfl rfl ?_
    refine r_istore_n 39 [(2, aI x1), (0, aR 100), (1, aI x1)] dX15_equal_38 rfl rfl rfl rfl ?_
    refine r_to [1, 0] [(0, aR 100), (2, aI x1)] rfl ?_
    exact sl_Tw_equal_39 P W x1 G
  · refine r_aload_n 8 0 dX15_equal_7 rfl rfl rfl ?_
    refine r_get 11 (aR 190) dX15_equal_8 fkX15_170 (fun _ => dsT_100 P W _) nn100 rfl rfl ?_
    refine r_iload_n 12 2 dX15_equal_11 rfl rfl rfl ?_
    refine r_aload_n 13 0 dX15_equal_12 rfl rfl rfl ?_
    refine r_aload_n 14 0 dX15_equal_13 rfl rfl rfl ?_
    refine r_get 17 (aR 187) dX15_equal_14 fkX15_161 (fun _ => dsT_100 P W _) nn100 rfl rfl ?_
    refine r_iload_n 18 2 dX15_equal_17 rfl rfl rfl ?_
    refine r_iald 19 dX15_equal_18 (fun _ _ _ => dsT_187 P W _) (fun _ _ => nn187) rfl ?_
    refine r_aload_n 20 0 dX15_equal_19 rfl rfl rfl ?_
    refine r_get 23 (aR 188) dX15_equal_20 fkX15_164 (fun _ => dsT_100 P W _) nn100 rfl rfl ?_
    refine r_iload_n 24 2 dX15_equal_23 rfl rfl rfl ?_
    refine r_iald 25 dX15_equal_24 (fun _ _ _ => dsT_188 P W _) (fun _ _ => nn188) rfl ?_
    refine r_callvI 28 (Mc := MTw_xor P W) (o := 100) (as := [aI (G 187 x2), aI (G 188 x2)]) (st := [aI x2, aR 190]) dX15_equal_25 rfl (c_Tw_xor P W (G 187 x2) (G 188 x2) G) lkX15_642 (cmTw_xor P W) rfl rfl rfl (fun _ => dsT_100 P W _) nn100 rfl (Nat.le_of_ble_eq_true rfl) (Nat.le_of_ble_eq_true rfl) (fun _ => rfl) rfl (fun z4 G5 => ?_)
    refine r_iconst 29 1 dX15_equal_28 rfl rfl ?_
    refine r_ixor 30 dX15_equal_29 rfl ?_
    refine r_iast 31 dX15_equal_30 (fun _ _ _ => dsT_190 P W _) (fun _ _ => nn190) rfl ?_
    refine ss_tk (fun G6 => ?_)
    refine r_iinc 34 [(2, aI (x2 + 1)), (0, aR 100), (1, aI x1)] 2 dX15_equal_31 rfl rfl rfl rfl ?_
    refine r_goto 2 dX15_equal_34 rfl ?_
    refine r_to [1, 2, 0] [(0, aR 100), (1, aI x1), (2, aI (x2 + 1))] rfl ?_
    exact SS.back (hX2 (x2 + 1, G6))
theorem sl_Tw_equal_2 (P W : Int) (x1 : Int) (x2 : Int) (G : St) : SS (MTw_equal P W) some 2 [(0, aR 100), (1, aI x1), (2, aI x2)] [] G (Tw_equal_l2 x1 x2 G) := by
  exact SS.loop (σ := Int × St) (fun s => [(0, aR 100), (1, aI x1), (2, aI (s.1))]) (fun s => s.2) (fun s => Tw_equal_s2 x1 s.1 s.2) (fun X2 hX2 s => s_Tw_equal_s2 P W x1  X2 hX2 s.1 s.2) (x2, G)
theorem s_Tw_equal (P W : Int) (x1 : Int) (G : St) : SS (MTw_equal P W) some 0 [(0, aR 100), (1, aI x1)] [] G (Tw_equal x1 G) := by
  refine r_iconst 1 0 dX15_equal_0 rfl rfl ?_
  refine r_istore_n 2 [(2, aI 0), (0, aR 100), (1, aI x1)] dX15_equal_1 rfl rfl rfl rfl ?_
  refine r_to [1, 2, 0] [(0, aR 100), (1, aI x1), (2, aI 0)] rfl ?_
  exact sl_Tw_equal_2 P W x1 0 G
theorem c_Tw_equal (P W : Int) (x1 : Int) (G : St) : MG (MTw_equal P W) [aR 100, aI x1] G (Tw_equal x1 G) := MG.of plX15 (Nat.le_of_ble_eq_true rfl) (s_Tw_equal P W x1 G)
theorem s_Tw_less_s52 (P W : Int) (X52 : Int × Int × St → Option (Int × St)) (hX52 : ∀ s, So (MTw_less P W) 52 [(0, aR 100), (1, aI (s.1)), (2, aI (s.2.1))] [] s.2.2 (X52 s)) (x1 : Int) (x2 : Int) (G : St) : SS (MTw_less P W) (lk X52 some) 52 [(0, aR 100), (1, aI x1), (2, aI x2)] [] G (Tw_less_s52 P W x1 x2 G) := by
  refine r_iload_n 53 2 dX15_less_52 rfl rfl rfl ?_
  refine r_aload_n 54 0 dX15_less_53 rfl rfl rfl ?_
  refine r_get 57 (aI W) dX15_less_54 fkX15_303 (fun _ => dsT_100 P W _) nn100 rfl rfl ?_
  refine r_icmp_ge 106 60 dX15_less_57 rfl rfl ?_ ?_
  · refine SS.ex ?_
    refine r_iload_n 107 1 dX15_less_106 rfl rfl rfl ?_
    refine r_iconst 108 1 dX15_less_107 rfl rfl ?_
    refine r_ixor 109 dX15_less_108 rfl ?_
    exact r_ireturn dX15_less_109 rfl
  · refine r_aload_n 61 0 dX15_less_60 rfl rfl rfl ?_
    refine r_aload_n 62 0 dX15_less_61 rfl rfl rfl ?_
    refine r_get 65 (aR 188) dX15_less_62 fkX15_164 (fun _ => dsT_100 P W _) nn100 rfl rfl ?_
    refine r_iload_n 66 2 dX15_less_65 rfl rfl rfl ?_
    refine r_iald 67 dX15_less_66 (fun _ _ _ => dsT_188 P W _) (fun _ _ => nn188) rfl ?_
    refine r_iconst 68 1 dX15_less_67 rfl rfl ?_
    refine r_ixor 69 dX15_less_68 rfl ?_
    refine r_iload_n 70 1 dX15_less_69 rfl rfl rfl ?_
    refine r_callvI 73 (Mc := MTw_xor P W) (o := 100) (as := [aI (j_xo (G 188 x2) 1), aI x1]) (st := []) dX15_less_70 rfl (c_Tw_xor P W (j_xo (G 188 x2) 1) x1 G) lkX15_642 (cmTw_xor P W) rfl rfl rfl (fun _ => dsT_100 P W _) nn100 rfl (Nat.le_of_ble_eq_true rfl) (Nat.le_of_ble_eq_true rfl) (fun _ => rfl) rfl (fun z3 G4 => ?_)
    refine r_istore_n 74 [(3, aI z3), (0, aR 100), (1, aI x1), (2, aI x2)] dX15_less_73 rfl rfl rfl rfl ?_
    refine r_aload_n 75 1 dX15_less_74 rfl rfl rfl ?_
    refine r_aload_n 76 1 dX15_less_75 rfl rfl rfl ?_
    refine r_get 79 (aR 187) dX15_less_76 fkX15_161 (fun _ => dsT_100 P W _) nn100 rfl rfl ?_
    refine r_iload_n 80 3 dX15_less_79 rfl rfl rfl ?_
    refine r_iald 81 dX15_less_80 (fun _ _ _ => dsT_187 P W _) (fun _ _ => nn187) rfl ?_
    refine r_iload_n 82 2 dX15_less_81 rfl rfl rfl ?_
    refine r_callvI 85 (Mc := MTw_xor P W) (o := 100) (as := [aI (G4 187 x2), aI x1]) (st := []) dX15_less_82 rfl (c_Tw_xor P W (G4 187 x2) x1 G4) lkX15_642 (cmTw_xor P W) rfl rfl rfl (fun _ => dsT_100 P W _) nn100 rfl (Nat.le_of_ble_eq_true rfl) (Nat.le_of_ble_eq_true rfl) (fun _ => rfl) rfl (fun z5 G6 => ?_)
    refine r_istore 87 [(4, aI z5), (3, aI z3), (0, aR 100), (1, aI x1), (2, aI x2)] dX15_less_85 rfl rfl rfl ?_
    refine r_aload_n 88 2 dX15_less_87 rfl rfl rfl ?_
    refine r_iload_n 89 3 dX15_less_88 rfl rfl rfl ?_
    refine r_aload_n 90 2 dX15_less_89 rfl rfl rfl ?_
    refine r_iload 92 0 dX15_less_90 rfl rfl ?_
    refine r_iload_n 93 1 dX15_less_92 rfl rfl rfl ?_
    refine r_callvI 96 (Mc := MTw_and P W) (o := 100) (as := [aI z5, aI z3]) (st := [aI x1, aR 100]) dX15_less_93 rfl (c_Tw_and P W z5 z3 G6) lkX15_646 (cmTw_and P W) rfl rfl rfl (fun _ => dsT_100 P W _) nn100 rfl (Nat.le_of_ble_eq_true rfl) (Nat.le_of_ble_eq_true rfl) (fun _ => rfl) rfl (fun z7 G8 => ?_)
    refine r_callvI 99 (Mc := MTw_xor P W) (o := 100) (as := [aI x1, aI z7]) (st := []) dX15_less_96 rfl (c_Tw_xor P W x1 z7 G8) lkX15_642 (cmTw_xor P W) rfl rfl rfl (fun _ => dsT_100 P W _) nn100 rfl (Nat.le_of_ble_eq_true rfl) (Nat.le_of_ble_eq_true rfl) (fun _ => rfl) rfl (fun z9 G10 => ?_)
    refine r_istore_n 100 [(1, aI z9), (4, aI z5), (3, aI z3), (0, aR 100), (2, aI x2)] dX15_less_99 rfl rfl rfl rfl ?_
    refine r_iinc 103 [(2, aI (x2 + 1)), (1, aI z9), (4, aI z5), (3, aI z3), (0, aR 100)] 4 dX15_less_100 rfl rfl rfl rfl ?_
    refine r_goto 52 dX15_less_103 rfl ?_
    refine r_to [4, 1, 0] [(0, aR 100), (1, aI z9), (2, aI (x2 + 1))] rfl ?_
    exact SS.back (hX52 (z9, x2 + 1, G10))
theorem sl_Tw_less_52 (P W : Int) (x1 : Int) (x2 : Int) (G : St) : SS (MTw_less P W) some 52 [(0, aR 100), (1, aI x1), (2, aI x2)] [] G (Tw_less_l52 P W x1 x2 G) := by
  exact SS.loop (σ := Int × Int × St) (fun s => [(0, aR 100), (1, aI (s.1)), (2, aI (s.2.1))]) (fun s => s.2.2) (fun s => Tw_less_s52 P W s.1 s.2.1 s.2.2) (fun X52 hX52 s => s_Tw_less_s52 P W   X52 hX52 s.1 s.2.1 s.2.2) (x1, x2, G)
theorem s_Tw_less (P W : Int) (G : St) : SS (MTw_less P W) some 0 [(0, aR 100)] [] G (Tw_less P W G) := by
  refine r_aload_n 1 0 dX15_less_0 rfl rfl rfl ?_
  refine r_get 4 (aR 187) dX15_less_1 fkX15_161 (fun _ => dsT_100 P W _) nn100 rfl rfl ?_
  refine r_aload_n 5 0 dX15_less_4 rfl rfl rfl ?_
  refine r_get 8 (aI W) dX15_less_5 fkX15_303 (fun _ => dsT_100 P W _) nn100 rfl rfl ?_
  refine r_iconst 9 1 dX15_less_8 rfl rfl ?_
  refine r_isub 10 dX15_less_9 rfl ?_
  refine r_aload_n 11 0 dX15_less_10 rfl rfl rfl ?_
  refine r_get 14 (aR 187) dX15_less_11 fkX15_161 (fun _ => dsT_100 P W _) nn100 rfl rfl ?_
  refine r_aload_n 15 0 dX15_less_14 rfl rfl rfl ?_
  refine r_get 18 (aI W) dX15_less_15 fkX15_303 (fun _ => dsT_100 P W _) nn100 rfl rfl ?_
  refine r_iconst 19 1 dX15_less_18 rfl rfl ?_
  refine r_isub 20 dX15_less_19 rfl ?_
  refine r_iald 21 dX15_less_20 (fun _ _ _ => dsT_187 P W _) (fun _ _ => nn187) rfl ?_
  refine r_iconst 22 1 dX15_less_21 rfl rfl ?_
  refine r_ixor 23 dX15_less_22 rfl ?_
  refine r_iast 24 dX15_less_23 (fun _ _ _ => dsT_187 P W _) (fun _ _ => nn187) rfl ?_
  refine ss_tk (fun G1 => ?_)
  refine r_aload_n 25 0 dX15_less_24 rfl rfl rfl ?_
  refine r_get 28 (aR 188) dX15_less_25 fkX15_164 (fun _ => dsT_100 P W _) nn100 rfl rfl ?_
  refine r_aload_n 29 0 dX15_less_28 rfl rfl rfl ?_
  refine r_get 32 (aI W) dX15_less_29 fkX15_303 (fun _ => dsT_100 P W _) nn100 rfl rfl ?_
  refine r_iconst 33 1 dX15_less_32 rfl rfl ?_
  refine r_isub 34 dX15_less_33 rfl ?_
  refine r_aload_n 35 0 dX15_less_34 rfl rfl rfl ?_
  refine r_get 38 (aR 188) dX15_less_35 fkX15_164 (fun _ => dsT_100 P W _) nn100 rfl rfl ?_
  refine r_aload_n 39 0 dX15_less_38 rfl rfl rfl ?_
  refine r_get 42 (aI W) dX15_less_39 fkX15_303 (fun _ => dsT_100 P W _) nn100 rfl rfl ?_
  refine r_iconst 43 1 dX15_less_42 rfl rfl ?_
  refine r_isub 44 dX15_less_43 rfl ?_
  refine r_iald 45 dX15_less_44 (fun _ _ _ => dsT_188 P W _) (fun _ _ => nn188) rfl ?_
  refine r_iconst 46 1 dX15_less_45 rfl rfl ?_
  refine r_ixor 47 dX15_less_46 rfl ?_
  refine r_iast 48 dX15_less_47 (fun _ _ _ => dsT_188 P W _) (fun _ _ => nn188) rfl ?_
  refine ss_tk (fun G2 => ?_)
  refine r_iconst 49 (-1) dX15_less_48 rfl rfl ?_
  refine r_istore_n 50 [(1, aI (-1)), (0, aR 100)] dX15_less_49 rfl rfl rfl rfl ?_
  refine r_iconst 51 0 dX15_less_50 rfl rfl ?_
  refine r_istore_n 52 [(2, aI 0), (1, aI (-1)), (0, aR 100)] dX15_less_51 rfl rfl rfl rfl ?_
  refine r_to [2, 1, 0] [(0, aR 100), (1, aI (-1)), (2, aI 0)] rfl ?_
  exact sl_Tw_less_52 P W (-1) 0 G2
theorem c_Tw_less (P W : Int) (G : St) : MG (MTw_less P W) [aR 100] G (Tw_less P W G) := MG.of plX15 (Nat.le_of_ble_eq_true rfl) (s_Tw_less P W G)
theorem s_Tw_sum_b81 (P W : Int) (x1 : Int) (X5 : Int × Int × St → Option (Int × St)) (hX5 : ∀ s, So (MTw_sum P W) 5 [(0, aR 100), (1, aI x1), (3, aI (s.1)), (4, aI (s.2.1))] [] s.2.2 (X5 s)) (x3 : Int) (x4 : Int) (G : St) : SS (MTw_sum P W) (lk X5 some) 81 [(0, aR 100), (1, aI x1), (3, aI x3), (4, aI x4)] [] G (Tw_sum_b81 x1 x3 x4 G) := by
  refine r_iinc 84 [(4, aI (x4 + 1)), (0, aR 100), (1, aI x1), (3, aI x3)] 3 dX15_sum_81 rfl rfl rfl rfl ?_
  refine r_goto 5 dX15_sum_84 rfl ?_
  refine r_to [1, 2, 3, 0] [(0, aR 100), (1, aI x1), (3, aI x3), (4, aI (x4 + 1))] rfl ?_
  exact SS.back (hX5 (x3, x4 + 1, G))
theorem s_Tw_sum_s5 (P W : Int) (x1 : Int) (X5 : Int × Int × St → Option (Int × St)) (hX5 : ∀ s, So (MTw_sum P W) 5 [(0, aR 100), (1, aI x1), (3, aI (s.1)), (4, aI (s.2.1))] [] s.2.2 (X5 s)) (x3 : Int) (x4 : Int) (G : St) : SS (MTw_sum P W) (lk X5 some) 5 [(0, aR 100), (1, aI x1), (3, aI x3), (4, aI x4)] [] G (Tw_sum_s5 x1 x3 x4 G) := by
  refine r_iload 7 3 dX15_sum_5 rfl rfl ?_
  refine r_iload_n 8 1 dX15_sum_7 rfl rfl rfl ?_
  refine r_icmp_ge 87 11 dX15_sum_8 rfl rfl ?_ ?_
  · refine SS.ex ?_
    exact r_return dX15_sum_87 rfl
  · refine r_aload_n 12 0 dX15_sum_11 rfl rfl rfl ?_
    refine r_aload_n 13 0 dX15_sum_12 rfl rfl rfl ?_
    refine r_get 16 (aR 188) dX15_sum_13 fkX15_164 (fun _ => dsT_100 P W _) nn100 rfl rfl ?_
    refine r_iload 18 3 dX15_sum_16 rfl rfl ?_
    refine r_iald 19 dX15_sum_18 (fun _ _ _ => dsT_188 P W _) (fun _ _ => nn188) rfl ?_
    refine r_iload_n 20 2 dX15_sum_19 rfl rfl rfl ?_
    refine r_callvI 23 (Mc := MTw_xor P W) (o := 100) (as := [aI (G 188 x4), aI x3]) (st := []) dX15_sum_20 rfl (c_Tw_xor P W (G 188 x4) x3 G) lkX15_642 (cmTw_xor P W) rfl rfl rfl (fun _ => dsT_100 P W _) nn100 rfl (Nat.le_of_ble_eq_true rfl) (Nat.le_of_ble_eq_true rfl) (fun _ => rfl) rfl (fun z1 G2 => ?_)
    refine r_istore 25 [(5, aI z1), (0, aR 100), (1, aI x1), (3, aI x3), (4, aI x4)] dX15_sum_23 rfl rfl rfl ?_
    refine r_aload_n 26 1 dX15_sum_25 rfl rfl rfl ?_
    refine r_get 29 (aR 189) dX15_sum_26 fkX15_167 (fun _ => dsT_100 P W _) nn100 rfl rfl ?_
    refine r_iload 31 4 dX15_sum_29 rfl rfl ?_
    refine r_aload_n 32 1 dX15_sum_31 rfl rfl rfl ?_
    refine r_aload_n 33 1 dX15_sum_32 rfl rfl rfl ?_
    refine r_get 36 (aR 187) dX15_sum_33 fkX15_161 (fun _ => dsT_100 P W _) nn100 rfl rfl ?_
    refine r_iload 38 4 dX15_sum_36 rfl rfl ?_
    refine r_iald 39 dX15_sum_38 (fun _ _ _ => dsT_187 P W _) (fun _ _ => nn187) rfl ?_
    refine r_iload 41 0 dX15_sum_39 rfl rfl ?_
    refine r_callvI 44 (Mc := MTw_xor P W) (o := 100) (as := [aI (G2 187 x4), aI z1]) (st := [aI x4, aR 189]) dX15_sum_41 rfl (c_Tw_xor P W (G2 187 x4) z1 G2) lkX15_642 (cmTw_xor P W) rfl rfl rfl (fun _ => dsT_100 P W _) nn100 rfl (Nat.le_of_ble_eq_true rfl) (Nat.le_of_ble_eq_true rfl) (fun _ => rfl) rfl (fun z3 G4 => ?_)
    refine r_iast 45 dX15_sum_44 (fun _ _ _ => dsT_189 P W _) (fun _ _ => nn189) rfl ?_
    refine ss_tk (fun G5 => ?_)
    refine r_iload 47 4 dX15_sum_45 rfl rfl ?_
    refine r_iload_n 48 2 dX15_sum_47 rfl rfl rfl ?_
    refine r_iconst 49 1 dX15_sum_48 rfl rfl ?_
    refine r_isub 50 dX15_sum_49 rfl ?_
    refine r_icmp_ge 81 53 dX15_sum_50 rfl rfl ?_ ?_
    · refine r_to [1, 2, 3, 4] [(0, aR 100), (1, aI x1), (3, aI x3), (4, aI x4)] rfl ?_
      exact s_Tw_sum_b81 P W x1 X5 hX5 x3 x4 G5
    · refine r_aload_n 54 1 dX15_sum_53 rfl rfl rfl ?_
      refine r_aload_n 55 1 dX15_sum_54 rfl rfl rfl ?_
      refine r_get 58 (aR 187) dX15_sum_55 fkX15_161 (fun _ => dsT_100 P W _) nn100 rfl rfl ?_
      refine r_iload 60 4 dX15_sum_58 rfl rfl ?_
      refine r_iald 61 dX15_sum_60 (fun _ _ _ => dsT_187 P W _) (fun _ _ => nn187) rfl ?_
      refine r_iload_n 62 3 dX15_sum_61 rfl rfl rfl ?_
      refine r_callvI 65 (Mc := MTw_xor P W) (o := 100) (as := [aI (G5 187 x4), aI x3]) (st := []) dX15_sum_62 rfl (c_Tw_xor P W (G5 187 x4) x3 G5) lkX15_642 (cmTw_xor P W) rfl rfl rfl (fun _ => dsT_100 P W _) nn100 rfl (Nat.le_of_ble_eq_true rfl) (Nat.le_of_ble_eq_true rfl) (fun _ => rfl) rfl (fun z6 G7 => ?_)
      refine r_istore 67 [(6, aI z6), (5, aI z1), (0, aR 100), (1, aI x1), (3, aI x3), (4, aI x4)] dX15_sum_65 rfl rfl rfl ?_
      refine r_aload_n 68 2 dX15_sum_67 rfl rfl rfl ?_
      refine r_iload_n 69 4 dX15_sum_68 rfl rfl rfl ?_
      refine r_aload_n 70 2 dX15_sum_69 rfl rfl rfl ?_
      refine r_iload 72 0 dX15_sum_70 rfl rfl ?_
      refine r_iload 74 1 dX15_sum_72 rfl rfl ?_
      refine r_callvI 77 (Mc := MTw_and P W) (o := 100) (as := [aI z6, aI z1]) (st := [aI x3, aR 100]) dX15_sum_74 rfl (c_Tw_and P W z6 z1 G7) lkX15_646 (cmTw_and P W) rfl rfl rfl (fun _ => dsT_100 P W _) nn100 rfl (Nat.le_of_ble_eq_true rfl) (Nat.le_of_ble_eq_true rfl) (fun _ => rfl) rfl (fun z8 G9 => ?_)
      refine r_callvI 80 (Mc := MTw_xor P W) (o := 100) (as := [aI x3, aI z8]) (st := []) dX15_sum_77 rfl (c_Tw_xor P W x3 z8 G9) lkX15_642 (cmTw_xor P W) rfl rfl rfl (fun _ => dsT_100 P W _) nn100 rfl (Nat.le_of_ble_eq_true rfl) (Nat.le_of_ble_eq_true rfl) (fun _ => rfl) rfl (fun z10 G11 => ?_)
      refine r_istore_n 81 [(3, aI z10), (6, aI z6), (5, aI z1), (0, aR 100), (1, aI x1), (4, aI x4)] dX15_sum_80 rfl rfl rfl rfl ?_
      refine r_to [3, 4, 0, 5] [(0, aR 100), (1, aI x1), (3, aI z10), (4, aI x4)] rfl ?_
      exact s_Tw_sum_b81 P W x1 X5 hX5 z10 x4 G11
theorem sl_Tw_sum_5 (P W : Int) (x1 : Int) (x3 : Int) (x4 : Int) (G : St) : SS (MTw_sum P W) some 5 [(0, aR 100), (1, aI x1), (3, aI x3), (4, aI x4)] [] G (Tw_sum_l5 x1 x3 x4 G) := by
  exact SS.loop (σ := Int × Int × St) (fun s => [(0, aR 100), (1, aI x1), (3, aI (s.1)), (4, aI (s.2.1))]) (fun s => s.2.2) (fun s => Tw_sum_s5 x1 s.1 s.2.1 s.2.2) (fun X5 hX5 s => s_Tw_sum_s5 P W x1  X5 hX5 s.1 s.2.1 s.2.2) (x3, x4, G)
theorem s_Tw_sum (P W : Int) (x1 : Int) (x2 : Int) (G : St) : SS (MTw_sum P W) some 0 [(0, aR 100), (1, aI x1), (2, aI x2)] [] G (Tw_sum x1 x2 G) := by
  refine r_iload_n 1 2 dX15_sum_0 rfl rfl rfl ?_
  refine r_istore_n 2 [(3, aI x2), (0, aR 100), (1, aI x1), (2, aI x2)] dX15_sum_1 rfl rfl rfl rfl ?_
  refine r_iconst 3 0 dX15_sum_2 rfl rfl ?_
  refine r_istore 5 [(4, aI 0), (3, aI x2), (0, aR 100), (1, aI x1), (2, aI x2)] dX15_sum_3 rfl rfl rfl ?_
  refine r_to [2, 3, 1, 0] [(0, aR 100), (1, aI x1), (3, aI x2), (4, aI 0)] rfl ?_
  exact sl_Tw_sum_5 P W x1 x2 0 G
theorem c_Tw_sum (P W : Int) (x1 : Int) (x2 : Int) (G : St) : MG (MTw_sum P W) [aR 100, aI x1, aI x2] G (Tw_sum x1 x2 G) := MG.of plX15 (Nat.le_of_ble_eq_true rfl) (s_Tw_sum P W x1 x2 G)
theorem s_Tw_multiply_s194 (P W : Int) (X194 : Int × St → Option (Int × St)) (hX194 : ∀ s, So (MTw_multiply P W) 194 [(0, aR 100), (1, aI (s.1))] [] s.2 (X194 s)) (x1 : Int) (G : St) : SS (MTw_multiply P W) (lk X194 some) 194 [(0, aR 100), (1, aI x1)] [] G (Tw_multiply_s194 P W x1 G) := by
  refine r_iload_n 195 1 dX15_multiply_194 rfl rfl rfl ?_
  refine r_aload_n 196 0 dX15_multiply_195 rfl rfl rfl ?_
  refine r_get 199 (aI W) dX15_multiply_196 fkX15_303 (fun _ => dsT_100 P W _) nn100 rfl rfl ?_
  refine r_icmp_ge 220 202 dX15_multiply_199 rfl rfl ?_ ?_
  · refine SS.ex ?_
    exact r_return dX15_multiply_220 rfl
  · refine r_aload_n 203 0 dX15_multiply_202 rfl rfl rfl ?_
    refine r_get 206 (aR 189) dX15_multiply_203 fkX15_167 (fun _ => dsT_100 P W _) nn100 rfl rfl ?_
    refine r_iload_n 207 1 dX15_multiply_206 rfl rfl rfl ?_
    refine r_aload_n 208 0 dX15_multiply_207 rfl rfl rfl ?_
    refine r_get 211 (aR 192) dX15_multiply_208 fkX15_176 (fun _ => dsT_100 P W _) nn100 rfl rfl ?_
    refine r_iload_n 212 1 dX15_multiply_211 rfl rfl rfl ?_
    refine r_iald 213 dX15_multiply_212 (fun _ _ _ => dsT_192 P W _) (fun _ _ => nn192) rfl ?_
    refine r_iast 214 dX15_multiply_213 (fun _ _ _ => dsT_189 P W _) (fun _ _ => nn189) rfl ?_
    refine ss_tk (fun G1 => ?_)
    refine r_iinc 217 [(1, aI (x1 + 1)), (0, aR 100)] 1 dX15_multiply_214 rfl rfl rfl rfl ?_
    refine r_goto 194 dX15_multiply_217 rfl ?_
    refine r_to [1, 0] [(0, aR 100), (1, aI (x1 + 1))] rfl ?_
    exact SS.back (hX194 (x1 + 1, G1))
theorem sl_Tw_multiply_194 (P W : Int) (x1 : Int) (G : St) : SS (MTw_multiply P W) some 194 [(0, aR 100), (1, aI x1)] [] G (Tw_multiply_l194 P W x1 G) := by
  exact SS.loop (σ := Int × St) (fun s => [(0, aR 100), (1, aI (s.1))]) (fun s => s.2) (fun s => Tw_multiply_s194 P W s.1 s.2) (fun X194 hX194 s => s_Tw_multiply_s194 P W   X194 hX194 s.1 s.2) (x1, G)
theorem s_Tw_multiply_s156 (P W : Int) (X80 : Int × St → Option (Int × St)) (hX80 : ∀ s, So (MTw_multiply P W) 80 [(0, aR 100), (1, aI (s.1))] [] s.2 (X80 s)) (x1 : Int) (X156 : Int × St → Option (Int × St)) (hX156 : ∀ s, So (MTw_multiply P W) 156 [(0, aR 100), (1, aI x1), (2, aI (s.1))] [] s.2 (X156 s)) (x2 : Int) (G : St) : SS (MTw_multiply P W) (lk X156 (lk X80 some)) 156 [(0, aR 100), (1, aI x1), (2, aI x2)] [] G (Tw_multiply_s156 P W x1 x2 G) := by
  refine r_iload_n 157 2 dX15_multiply_156 rfl rfl rfl ?_
  refine r_aload_n 158 0 dX15_multiply_157 rfl rfl rfl ?_
  refine r_get 161 (aI W) dX15_multiply_158 fkX15_303 (fun _ => dsT_100 P W _) nn100 rfl rfl ?_
  refine r_iload_n 162 1 dX15_multiply_161 rfl rfl rfl ?_
  refine r_isub 163 dX15_multiply_162 rfl ?_
  refine r_icmp_ge 186 166 dX15_multiply_163 rfl rfl ?_ ?_
  · refine SS.ex ?_
    refine r_iinc 189 [(1, aI (x1 + 1)), (0, aR 100), (2, aI x2)] 1 dX15_multiply_186 rfl rfl rfl rfl ?_
    refine r_goto 80 dX15_multiply_189 rfl ?_
    refine r_to [1, 0] [(0, aR 100), (1, aI (x1 + 1))] rfl ?_
    exact SS.back (hX80 (x1 + 1, G))
  · refine r_aload_n 167 0 dX15_multiply_166 rfl rfl rfl ?_
    refine r_get 170 (aR 192) dX15_multiply_167 fkX15_176 (fun _ => dsT_100 P W _) nn100 rfl rfl ?_
    refine r_iload_n 171 1 dX15_multiply_170 rfl rfl rfl ?_
    refine r_iload_n 172 2 dX15_multiply_171 rfl rfl rfl ?_
    refine r_iadd 173 dX15_multiply_172 rfl ?_
    refine r_aload_n 174 0 dX15_multiply_173 rfl rfl rfl ?_
    refine r_get 177 (aR 189) dX15_multiply_174 fkX15_167 (fun _ => dsT_100 P W _) nn100 rfl rfl ?_
    refine r_iload_n 178 2 dX15_multiply_177 rfl rfl rfl ?_
    refine r_iald 179 dX15_multiply_178 (fun _ _ _ => dsT_189 P W _) (fun _ _ => nn189) rfl ?_
    refine r_iast 180 dX15_multiply_179 (fun _ _ _ => dsT_192 P W _) (fun _ _ => nn192) rfl ?_
    refine ss_tk (fun G4 => ?_)
    refine r_iinc 183 [(2, aI (x2 + 1)), (0, aR 100), (1, aI x1)] 2 dX15_multiply_180 rfl rfl rfl rfl ?_
    refine r_goto 156 dX15_multiply_183 rfl ?_
    refine r_to [1, 2, 0] [(0, aR 100), (1, aI x1), (2, aI (x2 + 1))] rfl ?_
    exact SS.back (hX156 (x2 + 1, G4))
theorem sl_Tw_multiply_156 (P W : Int) (X80 : Int × St → Option (Int × St)) (hX80 : ∀ s, So (MTw_multiply P W) 80 [(0, aR 100), (1, aI (s.1))] [] s.2 (X80 s)) (x1 : Int) (x2 : Int) (G : St) : SS (MTw_multiply P W) (lk X80 some) 156 [(0, aR 100), (1, aI x1), (2, aI x2)] [] G (Tw_multiply_l156 P W x1 x2 G) := by
  exact SS.loop (σ := Int × St) (fun s => [(0, aR 100), (1, aI x1), (2, aI (s.1))]) (fun s => s.2) (fun s => Tw_multiply_s156 P W x1 s.1 s.2) (fun X156 hX156 s => s_Tw_multiply_s156 P W X80 hX80 x1  X156 hX156 s.1 s.2) (x2, G)
theorem s_Tw_multiply_s90 (P W : Int) (X80 : Int × St → Option (Int × St)) (hX80 : ∀ s, So (MTw_multiply P W) 80 [(0, aR 100), (1, aI (s.1))] [] s.2 (X80 s)) (x1 : Int) (X90 : Int × St → Option (Int × St)) (hX90 : ∀ s, So (MTw_multiply P W) 90 [(0, aR 100), (1, aI x1), (2, aI (s.1))] [] s.2 (X90 s)) (x2 : Int) (G : St) : SS (MTw_multiply P W) (lk X90 (lk X80 some)) 90 [(0, aR 100), (1, aI x1), (2, aI x2)] [] G (Tw_multiply_s90 P W x1 x2 G) := by
  refine r_iload_n 91 2 dX15_multiply_90 rfl rfl rfl ?_
  refine r_aload_n 92 0 dX15_multiply_91 rfl rfl rfl ?_
  refine r_get 95 (aI W) dX15_multiply_92 fkX15_303 (fun _ => dsT_100 P W _) nn100 rfl rfl ?_
  refine r_iload_n 96 1 dX15_multiply_95 rfl rfl rfl ?_
  refine r_isub 97 dX15_multiply_96 rfl ?_
  refine r_icmp_ge 142 100 dX15_multiply_97 rfl rfl ?_ ?_
  · refine SS.ex ?_
    refine r_aload_n 143 0 dX15_multiply_142 rfl rfl rfl ?_
    refine r_aload_n 144 0 dX15_multiply_143 rfl rfl rfl ?_
    refine r_get 147 (aI W) dX15_multiply_144 fkX15_303 (fun _ => dsT_100 P W _) nn100 rfl rfl ?_
    refine r_iload_n 148 1 dX15_multiply_147 rfl rfl rfl ?_
    refine r_isub 149 dX15_multiply_148 rfl ?_
    refine r_bipush 151 (-2) dX15_multiply_149 rfl rfl ?_
    refine r_callvV 154 (Mc := MTw_sum P W) (o := 100) (as := [aI (W - x1), aI (-2)]) (st := []) dX15_multiply_151 rfl (c_Tw_sum P W (W - x1) (-2) G) lkX15_652 (cmTw_sum P W) rfl rfl rfl (fun _ => dsT_100 P W _) nn100 rfl (Nat.le_of_ble_eq_true rfl) (Nat.le_of_ble_eq_true rfl) (fun _ => rfl) rfl (fun z2 G3 => ?_)
    refine r_iconst 155 0 dX15_multiply_154 rfl rfl ?_
    refine r_istore_n 156 [(2, aI 0), (0, aR 100), (1, aI x1)] dX15_multiply_155 rfl rfl rfl rfl ?_
    refine r_to [1, 2, 0] [(0, aR 100), (1, aI x1), (2, aI 0)] rfl ?_
    exact sl_Tw_multiply_156 P W X80 hX80 x1 0 G3
  · refine r_aload_n 101 0 dX15_multiply_100 rfl rfl rfl ?_
    refine r_get 104 (aR 188) dX15_multiply_101 fkX15_164 (fun _ => dsT_100 P W _) nn100 rfl rfl ?_
    refine r_iload_n 105 2 dX15_multiply_104 rfl rfl rfl ?_
    refine r_aload_n 106 0 dX15_multiply_105 rfl rfl rfl ?_
    refine r_aload_n 107 0 dX15_multiply_106 rfl rfl rfl ?_
    refine r_get 110 (aR 191) dX15_multiply_107 fkX15_173 (fun _ => dsT_100 P W _) nn100 rfl rfl ?_
    refine r_iload_n 111 2 dX15_multiply_110 rfl rfl rfl ?_
    refine r_iald 112 dX15_multiply_111 (fun _ _ _ => dsT_191 P W _) (fun _ _ => nn191) rfl ?_
    refine r_aload_n 113 0 dX15_multiply_112 rfl rfl rfl ?_
    refine r_get 116 (aR 190) dX15_multiply_113 fkX15_170 (fun _ => dsT_100 P W _) nn100 rfl rfl ?_
    refine r_iload_n 117 1 dX15_multiply_116 rfl rfl rfl ?_
    refine r_iald 118 dX15_multiply_117 (fun _ _ _ => dsT_190 P W _) (fun _ _ => nn190) rfl ?_
    refine r_callvI 121 (Mc := MTw_and P W) (o := 100) (as := [aI (G 191 x2), aI (G 190 x1)]) (st := [aI x2, aR 188]) dX15_multiply_118 rfl (c_Tw_and P W (G 191 x2) (G 190 x1) G) lkX15_646 (cmTw_and P W) rfl rfl rfl (fun _ => dsT_100 P W _) nn100 rfl (Nat.le_of_ble_eq_true rfl) (Nat.le_of_ble_eq_true rfl) (fun _ => rfl) rfl (fun z5 G6 => ?_)
    refine r_iast 122 dX15_multiply_121 (fun _ _ _ => dsT_188 P W _) (fun _ _ => nn188) rfl ?_
    refine ss_tk (fun G7 => ?_)
    refine r_aload_n 123 0 dX15_multiply_122 rfl rfl rfl ?_
    refine r_get 126 (aR 187) dX15_multiply_123 fkX15_161 (fun _ => dsT_100 P W _) nn100 rfl rfl ?_
    refine r_iload_n 127 2 dX15_multiply_126 rfl rfl rfl ?_
    refine r_aload_n 128 0 dX15_multiply_127 rfl rfl rfl ?_
    refine r_get 131 (aR 192) dX15_multiply_128 fkX15_176 (fun _ => dsT_100 P W _) nn100 rfl rfl ?_
    refine r_iload_n 132 1 dX15_multiply_131 rfl rfl rfl ?_
    refine r_iload_n 133 2 dX15_multiply_132 rfl rfl rfl ?_
    refine r_iadd 134 dX15_multiply_133 rfl ?_
    refine r_iald 135 dX15_multiply_134 (fun _ _ _ => dsT_192 P W _) (fun _ _ => nn192) rfl ?_
    refine r_iast 136 dX15_multiply_135 (fun _ _ _ => dsT_187 P W _) (fun _ _ => nn187) rfl ?_
    refine ss_tk (fun G8 => ?_)
    refine r_iinc 139 [(2, aI (x2 + 1)), (0, aR 100), (1, aI x1)] 2 dX15_multiply_136 rfl rfl rfl rfl ?_
    refine r_goto 90 dX15_multiply_139 rfl ?_
    refine r_to [1, 2, 0] [(0, aR 100), (1, aI x1), (2, aI (x2 + 1))] rfl ?_
    exact SS.back (hX90 (x2 + 1, G8))
theorem sl_Tw_multiply_90 (P W : Int) (X80 : Int × St → Option (Int × St)) (hX80 : ∀ s, So (MTw_multiply P W) 80 [(0, aR 100), (1, aI (s.1))] [] s.2 (X80 s)) (x1 : Int) (x2 : Int) (G : St) : SS (MTw_multiply P W) (lk X80 some) 90 [(0, aR 100), (1, aI x1), (2, aI x2)] [] G (Tw_multiply_l90 P W x1 x2 G) := by
  exact SS.loop (σ := Int × St) (fun s => [(0, aR 100), (1, aI x1), (2, aI (s.1))]) (fun s => s.2) (fun s => Tw_multiply_s90 P W x1 s.1 s.2) (fun X90 hX90 s => s_Tw_multiply_s90 P W X80 hX80 x1  X90 hX90 s.1 s.2) (x2, G)
theorem s_Tw_multiply_s80 (P W : Int) (X80 : Int × St → Option (Int × St)) (hX80 : ∀ s, So (MTw_multiply P W) 80 [(0, aR 100), (1, aI (s.1))] [] s.2 (X80 s)) (x1 : Int) (G : St) : SS (MTw_multiply P W) (lk X80 some) 80 [(0, aR 100), (1, aI x1)] [] G (Tw_multiply_s80 P W x1 G) := by
  refine r_iload_n 81 1 dX15_multiply_80 rfl rfl rfl ?_
  refine r_aload_n 82 0 dX15_multiply_81 rfl rfl rfl ?_
  refine r_get 85 (aI W) dX15_multiply_82 fkX15_303 (fun _ => dsT_100 P W _) nn100 rfl rfl ?_
  refine r_icmp_ge 192 88 dX15_multiply_85 rfl rfl ?_ ?_
  · refine SS.ex ?_
    refine r_iconst 193 0 dX15_multiply_192 rfl rfl ?_
    refine r_istore_n 194 [(1, aI 0), (0, aR 100)] dX15_multiply_193 rfl rfl rfl rfl ?_
    refine r_to [1, 0] [(0, aR 100), (1, aI 0)] rfl ?_
    exact sl_Tw_multiply_194 P W 0 G
  · refine r_iconst 89 0 dX15_multiply_88 rfl rfl ?_
    refine r_istore_n 90 [(2, aI 0), (0, aR 100), (1, aI x1)] dX15_multiply_89 rfl rfl rfl rfl ?_
    refine r_to [1, 2, 0] [(0, aR 100), (1, aI x1), (2, aI 0)] rfl ?_
    exact sl_Tw_multiply_90 P W X80 hX80 x1 0 G
theorem sl_Tw_multiply_80 (P W : Int) (x1 : Int) (G : St) : SS (MTw_multiply P W) some 80 [(0, aR 100), (1, aI x1)] [] G (Tw_multiply_l80 P W x1 G) := by
  exact SS.loop (σ := Int × St) (fun s => [(0, aR 100), (1, aI (s.1))]) (fun s => s.2) (fun s => Tw_multiply_s80 P W s.1 s.2) (fun X80 hX80 s => s_Tw_multiply_s80 P W   X80 hX80 s.1 s.2) (x1, G)
theorem s_Tw_multiply_s42 (P W : Int) (X42 : Int × St → Option (Int × St)) (hX42 : ∀ s, So (MTw_multiply P W) 42 [(0, aR 100), (1, aI (s.1))] [] s.2 (X42 s)) (x1 : Int) (G : St) : SS (MTw_multiply P W) (lk X42 some) 42 [(0, aR 100), (1, aI x1)] [] G (Tw_multiply_s42 P W x1 G) := by
  refine r_iload_n 43 1 dX15_multiply_42 rfl rfl rfl ?_
  refine r_aload_n 44 0 dX15_multiply_43 rfl rfl rfl ?_
  refine r_get 47 (aI W) dX15_multiply_44 fkX15_303 (fun _ => dsT_100 P W _) nn100 rfl rfl ?_
  refine r_icmp_ge 78 50 dX15_multiply_47 rfl rfl ?_ ?_
  · refine SS.ex ?_
    refine r_iconst 79 1 dX15_multiply_78 rfl rfl ?_
    refine r_istore_n 80 [(1, aI 1), (0, aR 100)] dX15_multiply_79 rfl rfl rfl rfl ?_
    refine r_to [1, 0] [(0, aR 100), (1, aI 1)] rfl ?_
    exact sl_Tw_multiply_80 P W 1 G
  · refine r_aload_n 51 0 dX15_multiply_50 rfl rfl rfl ?_
    refine r_get 54 (aR 192) dX15_multiply_51 fkX15_176 (fun _ => dsT_100 P W _) nn100 rfl rfl ?_
    refine r_iload_n 55 1 dX15_multiply_54 rfl rfl rfl ?_
    refine r_aload_n 56 0 dX15_multiply_55 rfl rfl rfl ?_
    refine r_aload_n 57 0 dX15_multiply_56 rfl rfl rfl ?_
    refine r_get 60 (aR 191) dX15_multiply_57 fkX15_173 (fun _ => dsT_100 P W _) nn100 rfl rfl ?_
    refine r_iload_n 61 1 dX15_multiply_60 rfl rfl rfl ?_
    refine r_iald 62 dX15_multiply_61 (fun _ _ _ => dsT_191 P W _) (fun _ _ => nn191) rfl ?_
    refine r_aload_n 63 0 dX15_multiply_62 rfl rfl rfl ?_
    refine r_get 66 (aR 190) dX15_multiply_63 fkX15_170 (fun _ => dsT_100 P W _) nn100 rfl rfl ?_
    refine r_iconst 67 0 dX15_multiply_66 rfl rfl ?_
    refine r_iald 68 dX15_multiply_67 (fun _ _ _ => dsT_190 P W _) (fun _ _ => nn190) rfl ?_
    refine r_callvI 71 (Mc := MTw_and P W) (o := 100) (as := [aI (G 191 x1), aI (G 190 0)]) (st := [aI x1, aR 192]) dX15_multiply_68 rfl (c_Tw_and P W (G 191 x1) (G 190 0) G) lkX15_646 (cmTw_and P W) rfl rfl rfl (fun _ => dsT_100 P W _) nn100 rfl (Nat.le_of_ble_eq_true rfl) (Nat.le_of_ble_eq_true rfl) (fun _ => rfl) rfl (fun z9 G10 => ?_)
    refine r_iast 72 dX15_multiply_71 (fun _ _ _ => dsT_192 P W _) (fun _ _ => nn192) rfl ?_
    refine ss_tk (fun G11 => ?_)
    refine r_iinc 75 [(1, aI (x1 + 1)), (0, aR 100)] 1 dX15_multiply_72 rfl rfl rfl rfl ?_
    refine r_goto 42 dX15_multiply_75 rfl ?_
    refine r_to [1, 0] [(0, aR 100), (1, aI (x1 + 1))] rfl ?_
    exact SS.back (hX42 (x1 + 1, G11))
theorem sl_Tw_multiply_42 (P W : Int) (x1 : Int) (G : St) : SS (MTw_multiply P W) some 42 [(0, aR 100), (1, aI x1)] [] G (Tw_multiply_l42 P W x1 G) := by
  exact SS.loop (σ := Int × St) (fun s => [(0, aR 100), (1, aI (s.1))]) (fun s => s.2) (fun s => Tw_multiply_s42 P W s.1 s.2) (fun X42 hX42 s => s_Tw_multiply_s42 P W   X42 hX42 s.1 s.2) (x1, G)
theorem s_Tw_multiply_s2 (P W : Int) (X2 : Int × St → Option (Int × St)) (hX2 : ∀ s, So (MTw_multiply P W) 2 [(0, aR 100), (1, aI (s.1))] [] s.2 (X2 s)) (x1 : Int) (G : St) : SS (MTw_multiply P W) (lk X2 some) 2 [(0, aR 100), (1, aI x1)] [] G (Tw_multiply_s2 P W x1 G) := by
  refine r_iload_n 3 1 dX15_multiply_2 rfl rfl rfl ?_
  refine r_aload_n 4 0 dX15_multiply_3 rfl rfl rfl ?_
  refine r_get 7 (aI W) dX15_multiply_4 fkX15_303 (fun _ => dsT_100 P W _) nn100 rfl rfl ?_
  refine r_icmp_ge 40 10 dX15_multiply_7 rfl rfl ?_ ?_
  · refine SS.ex ?_
    refine r_iconst 41 0 dX15_multiply_40 rfl rfl ?_
    refine r_istore_n 42 [(1, aI 0), (0, aR 100)] dX15_multiply_41 rfl rfl rfl rfl ?_
    refine r_to [1, 0] [(0, aR 100), (1, aI 0)] rfl ?_
    exact sl_Tw_multiply_42 P W 0 G
  · refine r_aload_n 11 0 dX15_multiply_10 rfl rfl rfl ?_
    refine r_get 14 (aR 191) dX15_multiply_11 fkX15_173 (fun _ => dsT_100 P W _) nn100 rfl rfl ?_
    refine r_iload_n 15 1 dX15_multiply_14 rfl rfl rfl ?_
    refine r_aload_n 16 0 dX15_multiply_15 rfl rfl rfl ?_
    refine r_get 19 (aR 187) dX15_multiply_16 fkX15_161 (fun _ => dsT_100 P W _) nn100 rfl rfl ?_
    refine r_iload_n 20 1 dX15_multiply_19 rfl rfl rfl ?_
    refine r_iald 21 dX15_multiply_20 (fun _ _ _ => dsT_187 P W _) (fun _ _ => nn187) rfl ?_
    refine r_iast 22 dX15_multiply_21 (fun _ _ _ => dsT_191 P W _) (fun _ _ => nn191) rfl ?_
    refine ss_tk (fun G12 => ?_)
    refine r_aload_n 23 0 dX15_multiply_22 rfl rfl rfl ?_
    refine r_get 26 (aR 190) dX15_multiply_23 fkX15_170 (fun _ => dsT_100 P W _) nn100 rfl rfl ?_
    refine r_iload_n 27 1 dX15_multiply_26 rfl rfl rfl ?_
    refine r_aload_n 28 0 dX15_multiply_27 rfl rfl rfl ?_
    refine r_get 31 (aR 188) dX15_multiply_28 fkX15_164 (fun _ => dsT_100 P W _) nn100 rfl rfl ?_
    refine r_iload_n 32 1 dX15_multiply_31 rfl rfl rfl ?_
    refine r_iald 33 dX15_multiply_32 (fun _ _ _ => dsT_188 P W _) (fun _ _ => nn188) rfl ?_
    refine r_iast 34 dX15_multiply_33 (fun _ _ _ => dsT_190 P W _) (fun _ _ => nn190) rfl ?_
    refine ss_tk (fun G13 => ?_)
    refine r_iinc 37 [(1, aI (x1 + 1)), (0, aR 100)] 1 dX15_multiply_34 rfl rfl rfl rfl ?_
    refine r_goto 2 dX15_multiply_37 rfl ?_
    refine r_to [1, 0] [(0, aR 100), (1, aI (x1 + 1))] rfl ?_
    exact SS.back (hX2 (x1 + 1, G13))
theorem sl_Tw_multiply_2 (P W : Int) (x1 : Int) (G : St) : SS (MTw_multiply P W) some 2 [(0, aR 100), (1, aI x1)] [] G (Tw_multiply_l2 P W x1 G) := by
  exact SS.loop (σ := Int × St) (fun s => [(0, aR 100), (1, aI (s.1))]) (fun s => s.2) (fun s => Tw_multiply_s2 P W s.1 s.2) (fun X2 hX2 s => s_Tw_multiply_s2 P W   X2 hX2 s.1 s.2) (x1, G)
theorem s_Tw_multiply (P W : Int) (G : St) : SS (MTw_multiply P W) some 0 [(0, aR 100)] [] G (Tw_multiply P W G) := by
  refine r_iconst 1 0 dX15_multiply_0 rfl rfl ?_
  refine r_istore_n 2 [(1, aI 0), (0, aR 100)] dX15_multiply_1 rfl rfl rfl rfl ?_
  refine r_to [1, 0] [(0, aR 100), (1, aI 0)] rfl ?_
  exact sl_Tw_multiply_2 P W 0 G
theorem c_Tw_multiply (P W : Int) (G : St) : MG (MTw_multiply P W) [aR 100] G (Tw_multiply P W G) := MG.of plX15 (Nat.le_of_ble_eq_true rfl) (s_Tw_multiply P W G)
theorem s_Tw_popX_s12 (P W : Int) (x1 : Int) (X12 : Int × St → Option (Int × St)) (hX12 : ∀ s, So (MTw_popX P W) 12 [(0, aR 100), (1, aI x1), (2, aI (s.1))] [] s.2 (X12 s)) (x2 : Int) (G : St) : SS (MTw_popX P W) (lk X12 some) 12 [(0, aR 100), (1, aI x1), (2, aI x2)] [] G (Tw_popX_s12 x1 x2 G) := by
  refine r_iload_n 13 2 dX15_popX_12 rfl rfl rfl ?_
  refine r_iload_n 14 1 dX15_popX_13 rfl rfl rfl ?_
  refine r_icmp_ge 43 17 dX15_popX_14 rfl rfl ?_ ?_
  · refine SS.ex ?_
    exact r_return dX15_popX_43 rfl
  · refine r_aload_n 18 0 dX15_popX_17 rfl rfl rfl ?_
    refine r_get 21 (aR 187) dX15_popX_18 fkX15_161 (fun _ => dsT_100 P W _) nn100 rfl rfl ?_
    refine r_iload_n 22 2 dX15_popX_21 rfl rfl rfl ?_
    refine r_aload_n 23 0 dX15_popX_22 rfl rfl rfl ?_
    refine r_get 26 (aR 185) dX15_popX_23 fkX15_158 (fun _ => dsT_100 P W _) nn100 rfl rfl ?_
    refine r_bipush 28 32 dX15_popX_26 rfl rfl ?_
    refine r_aload_n 29 0 dX15_popX_28 rfl rfl rfl ?_
    refine r_get 32 (aI (G 100 85)) dX15_popX_29 fkX15_649 (fun _ => dsT_100 P W _) nn100 rfl rfl ?_
    refine r_imul 33 dX15_popX_32 rfl ?_
    refine r_iload_n 34 2 dX15_popX_33 rfl rfl rfl ?_
    refine r_iadd 35 dX15_popX_34 rfl ?_
    refine r_iald 36 dX15_popX_35 (fun _ _ _ => dsT_185 P W _) (fun _ _ => nn185) rfl ?_
    refine r_iast 37 dX15_popX_36 (fun _ _ _ => dsT_187 P W _) (fun _ _ => nn187) rfl ?_
    refine ss_tk (fun G2 => ?_)
    refine r_iinc 40 [(2, aI (x2 + 1)), (0, aR 100), (1, aI x1)] 2 dX15_popX_37 rfl rfl rfl rfl ?_
    refine r_goto 12 dX15_popX_40 rfl ?_
    refine r_to [1, 2, 0] [(0, aR 100), (1, aI x1), (2, aI (x2 + 1))] rfl ?_
    exact SS.back (hX12 (x2 + 1, G2))
theorem sl_Tw_popX_12 (P W : Int) (x1 : Int) (x2 : Int) (G : St) : SS (MTw_popX P W) some 12 [(0, aR 100), (1, aI x1), (2, aI x2)] [] G (Tw_popX_l12 x1 x2 G) := by
  exact SS.loop (σ := Int × St) (fun s => [(0, aR 100), (1, aI x1), (2, aI (s.1))]) (fun s => s.2) (fun s => Tw_popX_s12 x1 s.1 s.2) (fun X12 hX12 s => s_Tw_popX_s12 P W x1  X12 hX12 s.1 s.2) (x2, G)
theorem s_Tw_popX (P W : Int) (x1 : Int) (G : St) : SS (MTw_popX P W) some 0 [(0, aR 100), (1, aI x1)] [] G (Tw_popX x1 G) := by
  refine r_aload_n 1 0 dX15_popX_0 rfl rfl rfl ?_
  refine r_dup 2 dX15_popX_1 rfl rfl ?_
  refine r_get 5 (aI (G 100 85)) dX15_popX_2 fkX15_649 (fun _ => dsT_100 P W _) nn100 rfl rfl ?_
  refine r_iconst 6 1 dX15_popX_5 rfl rfl ?_
  refine r_isub 7 dX15_popX_6 rfl ?_
  refine r_putI 10 dX15_popX_7 fkX15_649 (fun _ => dsT_100 P W _) nn100 rfl rfl ?_
  refine ss_tk (fun G1 => ?_)
  refine r_iconst 11 0 dX15_popX_10 rfl rfl ?_
  refine r_istore_n 12 [(2, aI 0), (0, aR 100), (1, aI x1)] dX15_popX_11 rfl rfl rfl rfl ?_
  refine r_to [1, 2, 0] [(0, aR 100), (1, aI x1), (2, aI 0)] rfl ?_
  exact sl_Tw_popX_12 P W x1 0 G1
theorem c_Tw_popX (P W : Int) (x1 : Int) (G : St) : MG (MTw_popX P W) [aR 100, aI x1] G (Tw_popX x1 G) := MG.of plX15 (Nat.le_of_ble_eq_true rfl) (s_Tw_popX P W x1 G)
theorem s_Tw_popY_s12 (P W : Int) (x1 : Int) (X12 : Int × St → Option (Int × St)) (hX12 : ∀ s, So (MTw_popY P W) 12 [(0, aR 100), (1, aI x1), (2, aI (s.1))] [] s.2 (X12 s)) (x2 : Int) (G : St) : SS (MTw_popY P W) (lk X12 some) 12 [(0, aR 100), (1, aI x1), (2, aI x2)] [] G (Tw_popY_s12 x1 x2 G) := by
  refine r_iload_n 13 2 dX15_popY_12 rfl rfl rfl ?_
  refine r_iload_n 14 1 dX15_popY_13 rfl rfl rfl ?_
  refine r_icmp_ge 43 17 dX15_popY_14 rfl rfl ?_ ?_
  · refine SS.ex ?_
    exact r_return dX15_popY_43 rfl
  · refine r_aload_n 18 0 dX15_popY_17 rfl rfl rfl ?_
    refine r_get 21 (aR 188) dX15_popY_18 fkX15_164 (fun _ => dsT_100 P W _) nn100 rfl rfl ?_
    refine r_iload_n 22 2 dX15_popY_21 rfl rfl rfl ?_
    refine r_aload_n 23 0 dX15_popY_22 rfl rfl rfl ?_
    refine r_get 26 (aR 185) dX15_popY_23 fkX15_158 (fun _ => dsT_100 P W _) nn100 rfl rfl ?_
    refine r_bipush 28 32 dX15_popY_26 rfl rfl ?_
    refine r_aload_n 29 0 dX15_popY_28 rfl rfl rfl ?_
    refine r_get 32 (aI (G 100 85)) dX15_popY_29 fkX15_649 (fun _ => dsT_100 P W _) nn100 rfl rfl ?_
    refine r_imul 33 dX15_popY_32 rfl ?_
    refine r_iload_n 34 2 dX15_popY_33 rfl rfl rfl ?_
    refine r_iadd 35 dX15_popY_34 rfl ?_
    refine r_iald 36 dX15_popY_35 (fun _ _ _ => dsT_185 P W _) (fun _ _ => nn185) rfl ?_
    refine r_iast 37 dX15_popY_36 (fun _ _ _ => dsT_188 P W _) (fun _ _ => nn188) rfl ?_
    refine ss_tk (fun G2 => ?_)
    refine r_iinc 40 [(2, aI (x2 + 1)), (0, aR 100), (1, aI x1)] 2 dX15_popY_37 rfl rfl rfl rfl ?_
    refine r_goto 12 dX15_popY_40 rfl ?_
    refine r_to [1, 2, 0] [(0, aR 100), (1, aI x1), (2, aI (x2 + 1))] rfl ?_
    exact SS.back (hX12 (x2 + 1, G2))
theorem sl_Tw_popY_12 (P W : Int) (x1 : Int) (x2 : Int) (G : St) : SS (MTw_popY P W) some 12 [(0, aR 100), (1, aI x1), (2, aI x2)] [] G (Tw_popY_l12 x1 x2 G) := by
  exact SS.loop (σ := Int × St) (fun s => [(0, aR 100), (1, aI x1), (2, aI (s.1))]) (fun s => s.2) (fun s => Tw_popY_s12 x1 s.1 s.2) (fun X12 hX12 s => s_Tw_popY_s12 P W x1  X12 hX12 s.1 s.2) (x2, G)
theorem s_Tw_popY (P W : Int) (x1 : Int) (G : St) : SS (MTw_popY P W) some 0 [(0, aR 100), (1, aI x1)] [] G (Tw_popY x1 G) := by
  refine r_aload_n 1 0 dX15_popY_0 rfl rfl rfl ?_
  refine r_dup 2 dX15_popY_1 rfl rfl ?_
  refine r_get 5 (aI (G 100 85)) dX15_popY_2 fkX15_649 (fun _ => dsT_100 P W _) nn100 rfl rfl ?_
  refine r_iconst 6 1 dX15_popY_5 rfl rfl ?_
  refine r_isub 7 dX15_popY_6 rfl ?_
  refine r_putI 10 dX15_popY_7 fkX15_649 (fun _ => dsT_100 P W _) nn100 rfl rfl ?_
  refine ss_tk (fun G1 => ?_)
  refine r_iconst 11 0 dX15_popY_10 rfl rfl ?_
  refine r_istore_n 12 [(2, aI 0), (0, aR 100), (1, aI x1)] dX15_popY_11 rfl rfl rfl rfl ?_
  refine r_to [1, 2, 0] [(0, aR 100), (1, aI x1), (2, aI 0)] rfl ?_
  exact sl_Tw_popY_12 P W x1 0 G1
theorem c_Tw_popY (P W : Int) (x1 : Int) (G : St) : MG (MTw_popY P W) [aR 100, aI x1] G (Tw_popY x1 G) := MG.of plX15 (Nat.le_of_ble_eq_true rfl) (s_Tw_popY P W x1 G)
theorem s_Tw_pushZ_s2 (P W : Int) (x1 : Int) (X2 : Int × St → Option (Int × St)) (hX2 : ∀ s, So (MTw_pushZ P W) 2 [(0, aR 100), (1, aI x1), (2, aI (s.1))] [] s.2 (X2 s)) (x2 : Int) (G : St) : SS (MTw_pushZ P W) (lk X2 some) 2 [(0, aR 100), (1, aI x1), (2, aI x2)] [] G (Tw_pushZ_s2 x1 x2 G) := by
  refine r_iload_n 3 2 dX15_pushZ_2 rfl rfl rfl ?_
  refine r_iload_n 4 1 dX15_pushZ_3 rfl rfl rfl ?_
  refine r_icmp_ge 33 7 dX15_pushZ_4 rfl rfl ?_ ?_
  · refine SS.ex ?_
    refine r_aload_n 34 0 dX15_pushZ_33 rfl rfl rfl ?_
    refine r_dup 35 dX15_pushZ_34 rfl rfl ?_
    refine r_get 38 (aI (G 100 85)) dX15_pushZ_35 fkX15_649 (fun _ => dsT_100 P W _) nn100 rfl rfl ?_
    refine r_iconst 39 1 dX15_pushZ_38 rfl rfl ?_
    refine r_iadd 40 dX15_pushZ_39 rfl ?_
    refine r_putI 43 dX15_pushZ_40 fkX15_649 (fun _ => dsT_100 P W _) nn100 rfl rfl ?_
    refine ss_tk (fun G1 => ?_)
    exact r_return dX15_pushZ_43 rfl
  · refine r_aload_n 8 0 dX15_pushZ_7 rfl rfl rfl ?_
    refine r_get 11 (aR 185) dX15_pushZ_8 fkX15_158 (fun _ => dsT_100 P W _) nn100 rfl rfl ?_
    refine r_bipush 13 32 dX15_pushZ_11 rfl rfl ?_
    refine r_aload_n 14 0 dX15_pushZ_13 rfl rfl rfl ?_
    refine r_get 17 (aI (G 100 85)) dX15_pushZ_14 fkX15_649 (fun _ => dsT_100 P W _) nn100 rfl rfl ?_
    refine r_imul 18 dX15_pushZ_17 rfl ?_
    refine r_iload_n 19 2 dX15_pushZ_18 rfl rfl rfl ?_
    refine r_iadd 20 dX15_pushZ_19 rfl ?_
    refine r_aload_n 21 0 dX15_pushZ_20 rfl rfl rfl ?_
    refine r_get 24 (aR 189) dX15_pushZ_21 fkX15_167 (fun _ => dsT_100 P W _) nn100 rfl rfl ?_
    refine r_iload_n 25 2 dX15_pushZ_24 rfl rfl rfl ?_
    refine r_iald 26 dX15_pushZ_25 (fun _ _ _ => dsT_189 P W _) (fun _ _ => nn189) rfl ?_
    refine r_iast 27 dX15_pushZ_26 (fun _ _ _ => dsT_185 P W _) (fun _ _ => nn185) rfl ?_
    refine ss_tk (fun G2 => ?_)
    refine r_iinc 30 [(2, aI (x2 + 1)), (0, aR 100), (1, aI x1)] 2 dX15_pushZ_27 rfl rfl rfl rfl ?_
    refine r_goto 2 dX15_pushZ_30 rfl ?_
    refine r_to [1, 2, 0] [(0, aR 100), (1, aI x1), (2, aI (x2 + 1))] rfl ?_
    exact SS.back (hX2 (x2 + 1, G2))
theorem sl_Tw_pushZ_2 (P W : Int) (x1 : Int) (x2 : Int) (G : St) : SS (MTw_pushZ P W) some 2 [(0, aR 100), (1, aI x1), (2, aI x2)] [] G (Tw_pushZ_l2 x1 x2 G) := by
  exact SS.loop (σ := Int × St) (fun s => [(0, aR 100), (1, aI x1), (2, aI (s.1))]) (fun s => s.2) (fun s => Tw_pushZ_s2 x1 s.1 s.2) (fun X2 hX2 s => s_Tw_pushZ_s2 P W x1  X2 hX2 s.1 s.2) (x2, G)
theorem s_Tw_pushZ (P W : Int) (x1 : Int) (G : St) : SS (MTw_pushZ P W) some 0 [(0, aR 100), (1, aI x1)] [] G (Tw_pushZ x1 G) := by
  refine r_iconst 1 0 dX15_pushZ_0 rfl rfl ?_
  refine r_istore_n 2 [(2, aI 0), (0, aR 100), (1, aI x1)] dX15_pushZ_1 rfl rfl rfl rfl ?_
  refine r_to [1, 2, 0] [(0, aR 100), (1, aI x1), (2, aI 0)] rfl ?_
  exact sl_Tw_pushZ_2 P W x1 0 G
theorem c_Tw_pushZ (P W : Int) (x1 : Int) (G : St) : MG (MTw_pushZ P W) [aR 100, aI x1] G (Tw_pushZ x1 G) := MG.of plX15 (Nat.le_of_ble_eq_true rfl) (s_Tw_pushZ P W x1 G)
theorem s_Tw_swap_s2 (P W : Int) (X2 : Int × St → Option (Int × St)) (hX2 : ∀ s, So (MTw_swap P W) 2 [(0, aR 100), (1, aI (s.1))] [] s.2 (X2 s)) (x1 : Int) (G : St) : SS (MTw_swap P W) (lk X2 some) 2 [(0, aR 100), (1, aI x1)] [] G (Tw_swap_s2 P W x1 G) := by
  refine r_iload_n 3 1 dX15_swap_2 rfl rfl rfl ?_
  refine r_aload_n 4 0 dX15_swap_3 rfl rfl rfl ?_
  refine r_get 7 (aI W) dX15_swap_4 fkX15_303 (fun _ => dsT_100 P W _) nn100 rfl rfl ?_
  refine r_icmp_ge 42 10 dX15_swap_7 rfl rfl ?_ ?_
  · refine SS.ex ?_
    exact r_return dX15_swap_42 rfl
  · refine r_aload_n 11 0 dX15_swap_10 rfl rfl rfl ?_
    refine r_get 14 (aR 187) dX15_swap_11 fkX15_161 (fun _ => dsT_100 P W _) nn100 rfl rfl ?_
    refine r_iload_n 15 1 dX15_swap_14 rfl rfl rfl ?_
    refine r_iald 16 dX15_swap_15 (fun _ _ _ => dsT_187 P W _) (fun _ _ => nn187) rfl ?_
    refine r_istore_n 17 [(2, aI (G 187 x1)), (0, aR 100), (1, aI x1)] dX15_swap_16 rfl rfl rfl rfl ?_
    refine r_aload_n 18 1 dX15_swap_17 rfl rfl rfl ?_
    refine r_get 21 (aR 187) dX15_swap_18 fkX15_161 (fun _ => dsT_100 P W _) nn100 rfl rfl ?_
    refine r_iload_n 22 2 dX15_swap_21 rfl rfl rfl ?_
    refine r_aload_n 23 1 dX15_swap_22 rfl rfl rfl ?_
    refine r_get 26 (aR 188) dX15_swap_23 fkX15_164 (fun _ => dsT_100 P W _) nn100 rfl rfl ?_
    refine r_iload_n 27 2 dX15_swap_26 rfl rfl rfl ?_
    refine r_iald 28 dX15_swap_27 (fun _ _ _ => dsT_188 P W _) (fun _ _ => nn188) rfl ?_
    refine r_iast 29 dX15_swap_28 (fun _ _ _ => dsT_187 P W _) (fun _ _ => nn187) rfl ?_
    refine ss_tk (fun G1 => ?_)
    refine r_aload_n 30 1 dX15_swap_29 rfl rfl rfl ?_
    refine r_get 33 (aR 188) dX15_swap_30 fkX15_164 (fun _ => dsT_100 P W _) nn100 rfl rfl ?_
    refine r_iload_n 34 2 dX15_swap_33 rfl rfl rfl ?_
    refine r_iload_n 35 0 dX15_swap_34 rfl rfl rfl ?_
    refine r_iast 36 dX15_swap_35 (fun _ _ _ => dsT_188 P W _) (fun _ _ => nn188) rfl ?_
    refine ss_tk (fun G2 => ?_)
    refine r_iinc 39 [(1, aI (x1 + 1)), (2, aI (G 187 x1)), (0, aR 100)] 2 dX15_swap_36 rfl rfl rfl rfl ?_
    refine r_goto 2 dX15_swap_39 rfl ?_
    refine r_to [2, 0] [(0, aR 100), (1, aI (x1 + 1))] rfl ?_
    exact SS.back (hX2 (x1 + 1, G2))
theorem sl_Tw_swap_2 (P W : Int) (x1 : Int) (G : St) : SS (MTw_swap P W) some 2 [(0, aR 100), (1, aI x1)] [] G (Tw_swap_l2 P W x1 G) := by
  exact SS.loop (σ := Int × St) (fun s => [(0, aR 100), (1, aI (s.1))]) (fun s => s.2) (fun s => Tw_swap_s2 P W s.1 s.2) (fun X2 hX2 s => s_Tw_swap_s2 P W   X2 hX2 s.1 s.2) (x1, G)
theorem s_Tw_swap (P W : Int) (G : St) : SS (MTw_swap P W) some 0 [(0, aR 100)] [] G (Tw_swap P W G) := by
  refine r_iconst 1 0 dX15_swap_0 rfl rfl ?_
  refine r_istore_n 2 [(1, aI 0), (0, aR 100)] dX15_swap_1 rfl rfl rfl rfl ?_
  refine r_to [1, 0] [(0, aR 100), (1, aI 0)] rfl ?_
  exact sl_Tw_swap_2 P W 0 G
theorem c_Tw_swap (P W : Int) (G : St) : MG (MTw_swap P W) [aR 100] G (Tw_swap P W G) := MG.of plX15 (Nat.le_of_ble_eq_true rfl) (s_Tw_swap P W G)
theorem s_Tw_worthOf_b39 (P W : Int) (x1 : Int) (X5 : Int × Int × St → Option (Int × St)) (hX5 : ∀ s, So (MTw_worthOf P W) 5 [(0, aR 100), (1, aI x1), (2, aL (s.1)), (4, aI (s.2.1))] [] s.2.2 (X5 s)) (x4 : Int) (s0 : Int) (s1 : Int) (G : St) : SS (MTw_worthOf P W) (lk X5 some) 39 [(0, aR 100), (1, aI x1), (4, aI x4)] [aL s0, aL s1] G (Tw_worthOf_b39 P W x1 x4 s0 s1 G) := by
  refine r_ladd 40 dX15_worthOf_39 rfl ?_
  refine r_lstore_n 41 [(2, aL (s1 + s0)), (0, aR 100), (1, aI x1), (4, aI x4)] dX15_worthOf_40 rfl rfl rfl rfl ?_
  refine r_iinc 44 [(4, aI (x4 + 1)), (2, aL (s1 + s0)), (0, aR 100), (1, aI x1)] 3 dX15_worthOf_41 rfl rfl rfl rfl ?_
  refine r_goto 5 dX15_worthOf_44 rfl ?_
  refine r_to [2, 3, 1, 0] [(0, aR 100), (1, aI x1), (2, aL (s1 + s0)), (4, aI (x4 + 1))] rfl ?_
  exact SS.back (hX5 (s1 + s0, x4 + 1, G))
theorem s_Tw_worthOf_s5 (P W : Int) (x1 : Int) (X5 : Int × Int × St → Option (Int × St)) (hX5 : ∀ s, So (MTw_worthOf P W) 5 [(0, aR 100), (1, aI x1), (2, aL (s.1)), (4, aI (s.2.1))] [] s.2.2 (X5 s)) (x2 : Int) (x4 : Int) (G : St) : SS (MTw_worthOf P W) (lk X5 some) 5 [(0, aR 100), (1, aI x1), (2, aL x2), (4, aI x4)] [] G (Tw_worthOf_s5 P W x1 x2 x4 G) := by
  refine r_iload 7 3 dX15_worthOf_5 rfl rfl ?_
  refine r_aload_n 8 0 dX15_worthOf_7 rfl rfl rfl ?_
  refine r_get 11 (aI W) dX15_worthOf_8 fkX15_303 (fun _ => dsT_100 P W _) nn100 rfl rfl ?_
  refine r_icmp_ge 47 14 dX15_worthOf_11 rfl rfl ?_ ?_
  · refine SS.ex ?_
    refine r_lload_n 48 2 dX15_worthOf_47 rfl rfl rfl ?_
    exact r_lreturn dX15_worthOf_48 rfl
  · refine r_lload_n 15 2 dX15_worthOf_14 rfl rfl rfl ?_
    refine r_aload_n 16 0 dX15_worthOf_15 rfl rfl rfl ?_
    refine r_get 19 (aR 185) dX15_worthOf_16 fkX15_158 (fun _ => dsT_100 P W _) nn100 rfl rfl ?_
    refine r_bipush 21 32 dX15_worthOf_19 rfl rfl ?_
    refine r_iload_n 22 1 dX15_worthOf_21 rfl rfl rfl ?_
    refine r_imul 23 dX15_worthOf_22 rfl ?_
    refine r_iload 25 3 dX15_worthOf_23 rfl rfl ?_
    refine r_iadd 26 dX15_worthOf_25 rfl ?_
    refine r_iald 27 dX15_worthOf_26 (fun _ _ _ => dsT_185 P W _) (fun _ _ => nn185) rfl ?_
    refine r_iconst 28 (-1) dX15_worthOf_27 rfl rfl ?_
    refine r_icmp_ne 38 31 dX15_worthOf_28 rfl rfl ?_ ?_
    · refine r_lconst 39 0 dX15_worthOf_38 rfl rfl rfl ?_
      refine r_to [0, 1, 3] [(0, aR 100), (1, aI x1), (4, aI x4)] rfl ?_
      exact s_Tw_worthOf_b39 P W x1 X5 hX5 x4 0 x2 G
    · refine r_lconst 32 1 dX15_worthOf_31 rfl rfl rfl ?_
      refine r_iload 34 3 dX15_worthOf_32 rfl rfl ?_
      refine r_lshl 35 dX15_worthOf_34 rfl ?_
      refine r_goto 39 dX15_worthOf_35 rfl ?_
      refine r_to [0, 1, 3] [(0, aR 100), (1, aI x1), (4, aI x4)] rfl ?_
      exact s_Tw_worthOf_b39 P W x1 X5 hX5 x4 (j_lsl 1 x4) x2 G
theorem sl_Tw_worthOf_5 (P W : Int) (x1 : Int) (x2 : Int) (x4 : Int) (G : St) : SS (MTw_worthOf P W) some 5 [(0, aR 100), (1, aI x1), (2, aL x2), (4, aI x4)] [] G (Tw_worthOf_l5 P W x1 x2 x4 G) := by
  exact SS.loop (σ := Int × Int × St) (fun s => [(0, aR 100), (1, aI x1), (2, aL (s.1)), (4, aI (s.2.1))]) (fun s => s.2.2) (fun s => Tw_worthOf_s5 P W x1 s.1 s.2.1 s.2.2) (fun X5 hX5 s => s_Tw_worthOf_s5 P W x1  X5 hX5 s.1 s.2.1 s.2.2) (x2, x4, G)
theorem s_Tw_worthOf (P W : Int) (x1 : Int) (G : St) : SS (MTw_worthOf P W) some 0 [(0, aR 100), (1, aI x1)] [] G (Tw_worthOf P W x1 G) := by
  refine r_lconst 1 0 dX15_worthOf_0 rfl rfl rfl ?_
  refine r_lstore_n 2 [(2, aL 0), (0, aR 100), (1, aI x1)] dX15_worthOf_1 rfl rfl rfl rfl ?_
  refine r_iconst 3 0 dX15_worthOf_2 rfl rfl ?_
  refine r_istore 5 [(4, aI 0), (2, aL 0), (0, aR 100), (1, aI x1)] dX15_worthOf_3 rfl rfl rfl ?_
  refine r_to [2, 3, 1, 0] [(0, aR 100), (1, aI x1), (2, aL 0), (4, aI 0)] rfl ?_
  exact sl_Tw_worthOf_5 P W x1 0 0 G
theorem c_Tw_worthOf (P W : Int) (x1 : Int) (G : St) : MG (MTw_worthOf P W) [aR 100, aI x1] G (Tw_worthOf P W x1 G) := MG.of plX15 (Nat.le_of_ble_eq_true rfl) (s_Tw_worthOf P W x1 G)
theorem s_Tw_binary_b160 (P W : Int) (x2 : Int) (x4 : Int) (X87 : Int × St → Option (Int × St)) (hX87 : ∀ s, So (MTw_binary P W) 87 [(0, aR 100), (2, aI x2), (4, aL x4), (6, aI (s.1))] [] s.2 (X87 s)) (x6 : Int) (s0 : Int) (s1 : Int) (G : St) : SS (MTw_binary P W) (lk X87 some) 160 [(0, aR 100), (2, aI x2), (4, aL x4), (6, aI x6)] [aI s0, aI s1, aR 189] G (Tw_binary_b160 P W x2 x4 x6 s0 s1 G) := by
  refine r_iast 161 dX15_binary_160 (fun _ _ _ => dsT_189 P W _) (fun _ _ => nn189) rfl ?_
  refine ss_tk (fun G10 => ?_)
  refine r_iinc 164 [(6, aI (x6 + 1)), (0, aR 100), (2, aI x2), (4, aL x4)] 3 dX15_binary_161 rfl rfl rfl rfl ?_
  refine r_goto 87 dX15_binary_164 rfl ?_
  refine r_to [1, 2, 3, 0] [(0, aR 100), (2, aI x2), (4, aL x4), (6, aI (x6 + 1))] rfl ?_
  exact SS.back (hX87 (x6 + 1, G10))
theorem s_Tw_binary_b154 (P W : Int) (x2 : Int) (x4 : Int) (X87 : Int × St → Option (Int × St)) (hX87 : ∀ s, So (MTw_binary P W) 87 [(0, aR 100), (2, aI x2), (4, aL x4), (6, aI (s.1))] [] s.2 (X87 s)) (x6 : Int) (s0 : Int) (s2 : Int) (G : St) : SS (MTw_binary P W) (lk X87 some) 154 [(0, aR 100), (2, aI x2), (4, aL x4), (6, aI x6)] [aI s0, aR 187, aI s2, aR 189] G (Tw_binary_b154 P W x2 x4 x6 s0 s2 G) := by
  refine r_iald 155 dX15_binary_154 (fun _ _ _ => dsT_187 P W _) (fun _ _ => nn187) rfl ?_
  refine r_goto 160 dX15_binary_155 rfl ?_
  exact s_Tw_binary_b160 P W x2 x4 X87 hX87 x6 (G 187 s0) s2 G
theorem s_Tw_binary_b117 (P W : Int) (x2 : Int) (x4 : Int) (X87 : Int × St → Option (Int × St)) (hX87 : ∀ s, So (MTw_binary P W) 87 [(0, aR 100), (2, aI x2), (4, aL x4), (6, aI (s.1))] [] s.2 (X87 s)) (x6 : Int) (s0 : Int) (G : St) : SS (MTw_binary P W) (lk X87 some) 117 [(0, aR 100), (2, aI x2), (4, aL x4), (6, aI x6)] [aI s0] G (Tw_binary_b117 P W x2 x4 x6 s0 G) := by
  refine r_istore 119 [(7, aI s0), (0, aR 100), (2, aI x2), (4, aL x4), (6, aI x6)] dX15_binary_117 rfl rfl rfl ?_
  refine r_aload_n 120 1 dX15_binary_119 rfl rfl rfl ?_
  refine r_get 123 (aR 189) dX15_binary_120 fkX15_167 (fun _ => dsT_100 P W _) nn100 rfl rfl ?_
  refine r_iload 125 4 dX15_binary_123 rfl rfl ?_
  refine r_iload 127 0 dX15_binary_125 rfl rfl ?_
  refine r_if_lt 158 130 dX15_binary_127 rfl rfl ?_ ?_
  · refine r_bipush 160 (-2) dX15_binary_158 rfl rfl ?_
    refine r_to [1, 2, 3, 4] [(0, aR 100), (2, aI x2), (4, aL x4), (6, aI x6)] rfl ?_
    exact s_Tw_binary_b160 P W x2 x4 X87 hX87 x6 (-2) x6 G
  · refine r_iload 132 0 dX15_binary_130 rfl rfl ?_
    refine r_aload_n 133 1 dX15_binary_132 rfl rfl rfl ?_
    refine r_get 136 (aI W) dX15_binary_133 fkX15_303 (fun _ => dsT_100 P W _) nn100 rfl rfl ?_
    refine r_icmp_ge 158 139 dX15_binary_136 rfl rfl ?_ ?_
    · refine r_bipush 160 (-2) dX15_binary_158 rfl rfl ?_
      refine r_to [1, 2, 3, 4] [(0, aR 100), (2, aI x2), (4, aL x4), (6, aI x6)] rfl ?_
      exact s_Tw_binary_b160 P W x2 x4 X87 hX87 x6 (-2) x6 G
    · refine r_aload_n 140 1 dX15_binary_139 rfl rfl rfl ?_
      refine r_get 143 (aR 187) dX15_binary_140 fkX15_161 (fun _ => dsT_100 P W _) nn100 rfl rfl ?_
      refine r_iload 145 0 dX15_binary_143 rfl rfl ?_
      refine SS.phi (fun VV_ => Tw_binary_b154 P W x2 x4 x6 VV_ x6 G) ?_
      refine r_if_ge 152 148 dX15_binary_145 rfl rfl ?_ ?_
      · refine r_iload 154 0 dX15_binary_152 rfl rfl ?_
        refine r_to [1, 2, 3, 4] [(0, aR 100), (2, aI x2), (4, aL x4), (6, aI x6)] rfl ?_
        exact s_Tw_binary_b154 P W x2 x4 X87 hX87 x6 s0 x6 G
      · refine r_iconst 149 0 dX15_binary_148 rfl rfl ?_
        refine r_goto 154 dX15_binary_149 rfl ?_
        refine r_to [1, 2, 3, 4] [(0, aR 100), (2, aI x2), (4, aL x4), (6, aI x6)] rfl ?_
        exact s_Tw_binary_b154 P W x2 x4 X87 hX87 x6 0 x6 G
theorem s_Tw_binary_s87 (P W : Int) (x2 : Int) (x4 : Int) (X87 : Int × St → Option (Int × St)) (hX87 : ∀ s, So (MTw_binary P W) 87 [(0, aR 100), (2, aI x2), (4, aL x4), (6, aI (s.1))] [] s.2 (X87 s)) (x6 : Int) (G : St) : SS (MTw_binary P W) (lk X87 some) 87 [(0, aR 100), (2, aI x2), (4, aL x4), (6, aI x6)] [] G (Tw_binary_s87 P W x2 x4 x6 G) := by
  refine r_iload 89 3 dX15_binary_87 rfl rfl ?_
  refine r_aload_n 90 0 dX15_binary_89 rfl rfl rfl ?_
  refine r_get 93 (aI W) dX15_binary_90 fkX15_303 (fun _ => dsT_100 P W _) nn100 rfl rfl ?_
  refine r_icmp_ge 167 96 dX15_binary_93 rfl rfl ?_ ?_
  · refine SS.ex ?_
    refine r_aload_n 168 0 dX15_binary_167 rfl rfl rfl ?_
    refine r_aload_n 169 0 dX15_binary_168 rfl rfl rfl ?_
    refine r_get 172 (aI W) dX15_binary_169 fkX15_303 (fun _ => dsT_100 P W _) nn100 rfl rfl ?_
    refine r_callvV 175 (Mc := MTw_pushZ P W) (o := 100) (as := [aI W]) (st := []) dX15_binary_172 rfl (c_Tw_pushZ P W W G) lkX15_697 (cmTw_pushZ P W) rfl rfl rfl (fun _ => dsT_100 P W _) nn100 rfl (Nat.le_of_ble_eq_true rfl) (Nat.le_of_ble_eq_true rfl) (fun _ => rfl) rfl (fun z8 G9 => ?_)
    exact r_return dX15_binary_175 rfl
  · refine r_iload_n 97 1 dX15_binary_96 rfl rfl rfl ?_
    refine r_bipush 99 12 dX15_binary_97 rfl rfl ?_
    refine r_icmp_ne 111 102 dX15_binary_99 rfl rfl ?_ ?_
    · refine r_iload 113 3 dX15_binary_111 rfl rfl ?_
      refine r_lload 115 2 dX15_binary_113 rfl rfl ?_
      refine r_l2iw 116 dX15_binary_115 rfl ?_
      refine r_iadd 117 dX15_binary_116 rfl ?_
      exact s_Tw_binary_b117 P W x2 x4 X87 hX87 x6 (x6 + (w32 x4)) G
    · refine r_iload 104 3 dX15_binary_102 rfl rfl ?_
      refine r_lload 106 2 dX15_binary_104 rfl rfl ?_
      refine r_l2iw 107 dX15_binary_106 rfl ?_
      refine r_isub 108 dX15_binary_107 rfl ?_
      refine r_goto 117 dX15_binary_108 rfl ?_
      exact s_Tw_binary_b117 P W x2 x4 X87 hX87 x6 (x6 - (w32 x4)) G
theorem sl_Tw_binary_87 (P W : Int) (x2 : Int) (x4 : Int) (x6 : Int) (G : St) : SS (MTw_binary P W) some 87 [(0, aR 100), (2, aI x2), (4, aL x4), (6, aI x6)] [] G (Tw_binary_l87 P W x2 x4 x6 G) := by
  exact SS.loop (σ := Int × St) (fun s => [(0, aR 100), (2, aI x2), (4, aL x4), (6, aI (s.1))]) (fun s => s.2) (fun s => Tw_binary_s87 P W x2 x4 s.1 s.2) (fun X87 hX87 s => s_Tw_binary_s87 P W x2 x4  X87 hX87 s.1 s.2) (x6, G)
theorem s_Tw_binary_b30 (P W : Int) (x1 : Int) (x2 : Int) (G : St) : SS (MTw_binary P W) some 30 [(0, aR 100), (1, aI x1), (2, aI x2)] [] G (Tw_binary_b30 P W x1 x2 G) := by
  refine r_aload_n 31 0 dX15_binary_30 rfl rfl rfl ?_
  refine r_aload_n 32 0 dX15_binary_31 rfl rfl rfl ?_
  refine r_get 35 (aI (G 100 85)) dX15_binary_32 fkX15_649 (fun _ => dsT_100 P W _) nn100 rfl rfl ?_
  refine r_iconst 36 1 dX15_binary_35 rfl rfl ?_
  refine r_isub 37 dX15_binary_36 rfl ?_
  refine r_callvL 40 (Mc := MTw_worthOf P W) (o := 100) (as := [aI ((G 100 85) - 1)]) (st := []) dX15_binary_37 rfl (c_Tw_worthOf P W ((G 100 85) - 1) G) lkX15_712 (cmTw_worthOf P W) rfl rfl rfl (fun _ => dsT_100 P W _) nn100 rfl (Nat.le_of_ble_eq_true rfl) (Nat.le_of_ble_eq_true rfl) (fun _ => rfl) rfl (fun z3 G4 => ?_)
  refine r_lstore 42 [(4, aL z3), (0, aR 100), (1, aI x1), (2, aI x2)] dX15_binary_40 rfl rfl rfl ?_
  refine r_lload 44 0 dX15_binary_42 rfl rfl ?_
  refine r_aload_n 45 1 dX15_binary_44 rfl rfl rfl ?_
  refine r_get 48 (aI W) dX15_binary_45 fkX15_303 (fun _ => dsT_100 P W _) nn100 rfl rfl ?_
  refine r_i2l 49 dX15_binary_48 rfl ?_
  refine r_lif_lt 50 66 53 dX15_binary_49 rfl dX15_binary_50 rfl rfl ?_ ?_
  · refine r_aload_n 67 1 dX15_binary_66 rfl rfl rfl ?_
    refine r_dup 68 dX15_binary_67 rfl rfl ?_
    refine r_get 71 (aI (G4 100 85)) dX15_binary_68 fkX15_649 (fun _ => dsT_100 P W _) nn100 rfl rfl ?_
    refine r_iconst 72 1 dX15_binary_71 rfl rfl ?_
    refine r_isub 73 dX15_binary_72 rfl ?_
    refine r_putI 76 dX15_binary_73 fkX15_649 (fun _ => dsT_100 P W _) nn100 rfl rfl ?_
    refine ss_tk (fun G5 => ?_)
    refine r_aload_n 77 1 dX15_binary_76 rfl rfl rfl ?_
    refine r_aload_n 78 1 dX15_binary_77 rfl rfl rfl ?_
    refine r_get 81 (aI W) dX15_binary_78 fkX15_303 (fun _ => dsT_100 P W _) nn100 rfl rfl ?_
    refine r_callvV 84 (Mc := MTw_popX P W) (o := 100) (as := [aI W]) (st := []) dX15_binary_81 rfl (c_Tw_popX P W W G5) lkX15_709 (cmTw_popX P W) rfl rfl rfl (fun _ => dsT_100 P W _) nn100 rfl (Nat.le_of_ble_eq_true rfl) (Nat.le_of_ble_eq_true rfl) (fun _ => rfl) rfl (fun z6 G7 => ?_)
    refine r_iconst 85 0 dX15_binary_84 rfl rfl ?_
    refine r_istore 87 [(6, aI 0), (4, aL z3), (0, aR 100), (1, aI x1), (2, aI x2)] dX15_binary_85 rfl rfl rfl ?_
    refine r_to [2, 4, 1, 0] [(0, aR 100), (2, aI x2), (4, aL z3), (6, aI 0)] rfl ?_
    exact sl_Tw_binary_87 P W x2 z3 0 G7
  · refine r_aload_n 54 1 dX15_binary_53 rfl rfl rfl ?_
    refine r_bipush 56 7 dX15_binary_54 rfl rfl ?_
    refine r_aload_n 57 1 dX15_binary_56 rfl rfl rfl ?_
    refine r_get 60 (aR 155) dX15_binary_57 fkX15_108 (fun _ => dsT_100 P W _) nn100 rfl rfl ?_
    refine r_iload_n 61 2 dX15_binary_60 rfl rfl rfl ?_
    refine r_iald 62 dX15_binary_61 (fun _ _ _ => dsT_155 P W _) (fun _ _ => nn155) rfl ?_
    refine r_callvV 65 (Mc := MTw_fail P W) (o := 100) (as := [aI 7, aI (G4 155 x1)]) (st := []) dX15_binary_62 rfl (c_Tw_fail P W 7 (G4 155 x1) G4) lkX15_390 (cmTw_fail P W) rfl rfl rfl (fun _ => dsT_100 P W _) nn100 rfl (Nat.le_of_ble_eq_true rfl) (Nat.le_of_ble_eq_true rfl) (fun _ => rfl) rfl (fun z11 G12 => ?_)
    exact r_return dX15_binary_65 rfl
theorem s_Tw_binary_b610 (P W : Int) (x4 : Int) (G : St) : SS (MTw_binary P W) some 610 [(0, aR 100), (4, aI x4)] [] G (Tw_binary_b610 P W x4 G) := by
  refine r_aload_n 611 0 dX15_binary_610 rfl rfl rfl ?_
  refine r_iload 613 1 dX15_binary_611 rfl rfl ?_
  refine r_callvV 616 (Mc := MTw_pushZ P W) (o := 100) (as := [aI x4]) (st := []) dX15_binary_613 rfl (c_Tw_pushZ P W x4 G) lkX15_697 (cmTw_pushZ P W) rfl rfl rfl (fun _ => dsT_100 P W _) nn100 rfl (Nat.le_of_ble_eq_true rfl) (Nat.le_of_ble_eq_true rfl) (fun _ => rfl) rfl (fun z17 G18 => ?_)
  exact r_return dX15_binary_616 rfl
theorem s_Tw_binary_s271 (P W : Int) (x3 : Int) (x4 : Int) (X271 : Int × St → Option (Int × St)) (hX271 : ∀ s, So (MTw_binary P W) 271 [(0, aR 100), (3, aI x3), (4, aI x4), (5, aI (s.1))] [] s.2 (X271 s)) (x5 : Int) (G : St) : SS (MTw_binary P W) (lk X271 some) 271 [(0, aR 100), (3, aI x3), (4, aI x4), (5, aI x5)] [] G (Tw_binary_s271 P W x3 x4 x5 G) := by
  refine r_iload 273 3 dX15_binary_271 rfl rfl ?_
  refine r_iload_n 274 1 dX15_binary_273 rfl rfl rfl ?_
  refine r_icmp_ge 314 277 dX15_binary_274 rfl rfl ?_ ?_
  · refine SS.ex ?_
    refine r_goto 610 dX15_binary_314 rfl ?_
    refine r_to [0, 2] [(0, aR 100), (4, aI x4)] rfl ?_
    exact s_Tw_binary_b610 P W x4 G
  · refine r_aload_n 278 0 dX15_binary_277 rfl rfl rfl ?_
    refine r_get 281 (aR 189) dX15_binary_278 fkX15_167 (fun _ => dsT_100 P W _) nn100 rfl rfl ?_
    refine r_iload 283 3 dX15_binary_281 rfl rfl ?_
    refine r_aload_n 284 0 dX15_binary_283 rfl rfl rfl ?_
    refine r_aload_n 285 0 dX15_binary_284 rfl rfl rfl ?_
    refine r_get 288 (aR 187) dX15_binary_285 fkX15_161 (fun _ => dsT_100 P W _) nn100 rfl rfl ?_
    refine r_iload 290 3 dX15_binary_288 rfl rfl ?_
    refine r_iald 291 dX15_binary_290 (fun _ _ _ => dsT_187 P W _) (fun _ _ => nn187) rfl ?_
    refine r_iconst 292 1 dX15_binary_291 rfl rfl ?_
    refine r_ixor 293 dX15_binary_292 rfl ?_
    refine r_aload_n 294 0 dX15_binary_293 rfl rfl rfl ?_
    refine r_get 297 (aR 188) dX15_binary_294 fkX15_164 (fun _ => dsT_100 P W _) nn100 rfl rfl ?_
    refine r_iload 299 3 dX15_binary_297 rfl rfl ?_
    refine r_iald 300 dX15_binary_299 (fun _ _ _ => dsT_188 P W _) (fun _ _ => nn188) rfl ?_
    refine r_iconst 301 1 dX15_binary_300 rfl rfl ?_
    refine r_ixor 302 dX15_binary_301 rfl ?_
    refine r_callvI 305 (Mc := MTw_and P W) (o := 100) (as := [aI (j_xo (G 187 x5) 1), aI (j_xo (G 188 x5) 1)]) (st := [aI x5, aR 189]) dX15_binary_302 rfl (c_Tw_and P W (j_xo (G 187 x5) 1) (j_xo (G 188 x5) 1) G) lkX15_646 (cmTw_and P W) rfl rfl rfl (fun _ => dsT_100 P W _) nn100 rfl (Nat.le_of_ble_eq_true rfl) (Nat.le_of_ble_eq_true rfl) (fun _ => rfl) rfl (fun z19 G20 => ?_)
    refine r_iconst 306 1 dX15_binary_305 rfl rfl ?_
    refine r_ixor 307 dX15_binary_306 rfl ?_
    refine r_iast 308 dX15_binary_307 (fun _ _ _ => dsT_189 P W _) (fun _ _ => nn189) rfl ?_
    refine ss_tk (fun G21 => ?_)
    refine r_iinc 311 [(5, aI (x5 + 1)), (0, aR 100), (3, aI x3), (4, aI x4)] 3 dX15_binary_308 rfl rfl rfl rfl ?_
    refine r_goto 271 dX15_binary_311 rfl ?_
    refine r_to [1, 2, 3, 0] [(0, aR 100), (3, aI x3), (4, aI x4), (5, aI (x5 + 1))] rfl ?_
    exact SS.back (hX271 (x5 + 1, G21))
theorem sl_Tw_binary_271 (P W : Int) (x3 : Int) (x4 : Int) (x5 : Int) (G : St) : SS (MTw_binary P W) some 271 [(0, aR 100), (3, aI x3), (4, aI x4), (5, aI x5)] [] G (Tw_binary_l271 P W x3 x4 x5 G) := by
  exact SS.loop (σ := Int × St) (fun s => [(0, aR 100), (3, aI x3), (4, aI x4), (5, aI (s.1))]) (fun s => s.2) (fun s => Tw_binary_s271 P W x3 x4 s.1 s.2) (fun X271 hX271 s => s_Tw_binary_s271 P W x3 x4  X271 hX271 s.1 s.2) (x5, G)
theorem s_Tw_binary_b268 (P W : Int) (x3 : Int) (x4 : Int) (G : St) : SS (MTw_binary P W) some 268 [(0, aR 100), (3, aI x3), (4, aI x4)] [] G (Tw_binary_b268 P W x3 x4 G) := by
  refine r_iconst 269 0 dX15_binary_268 rfl rfl ?_
  refine r_istore 271 [(5, aI 0), (0, aR 100), (3, aI x3), (4, aI x4)] dX15_binary_269 rfl rfl rfl ?_
  refine r_to [1, 2, 3, 0] [(0, aR 100), (3, aI x3), (4, aI x4), (5, aI 0)] rfl ?_
  exact sl_Tw_binary_271 P W x3 x4 0 G
theorem s_Tw_binary_s320 (P W : Int) (x3 : Int) (x4 : Int) (X320 : Int × St → Option (Int × St)) (hX320 : ∀ s, So (MTw_binary P W) 320 [(0, aR 100), (3, aI x3), (4, aI x4), (5, aI (s.1))] [] s.2 (X320 s)) (x5 : Int) (G : St) : SS (MTw_binary P W) (lk X320 some) 320 [(0, aR 100), (3, aI x3), (4, aI x4), (5, aI x5)] [] G (Tw_binary_s320 P W x3 x4 x5 G) := by
  refine r_iload 322 3 dX15_binary_320 rfl rfl ?_
  refine r_iload_n 323 1 dX15_binary_322 rfl rfl rfl ?_
  refine r_icmp_ge 357 326 dX15_binary_323 rfl rfl ?_ ?_
  · refine SS.ex ?_
    refine r_goto 610 dX15_binary_357 rfl ?_
    refine r_to [0, 2] [(0, aR 100), (4, aI x4)] rfl ?_
    exact s_Tw_binary_b610 P W x4 G
  · refine r_aload_n 327 0 dX15_binary_326 rfl rfl rfl ?_
    refine r_get 330 (aR 189) dX15_binary_327 fkX15_167 (fun _ => dsT_100 P W _) nn100 rfl rfl ?_
    refine r_iload 332 3 dX15_binary_330 rfl rfl ?_
    refine r_aload_n 333 0 dX15_binary_332 rfl rfl rfl ?_
    refine r_aload_n 334 0 dX15_binary_333 rfl rfl rfl ?_
    refine r_get 337 (aR 187) dX15_binary_334 fkX15_161 (fun _ => dsT_100 P W _) nn100 rfl rfl ?_
    refine r_iload 339 3 dX15_binary_337 rfl rfl ?_
    refine r_iald 340 dX15_binary_339 (fun _ _ _ => dsT_187 P W _) (fun _ _ => nn187) rfl ?_
    refine r_aload_n 341 0 dX15_binary_340 rfl rfl rfl ?_
    refine r_get 344 (aR 188) dX15_binary_341 fkX15_164 (fun _ => dsT_100 P W _) nn100 rfl rfl ?_
    refine r_iload 346 3 dX15_binary_344 rfl rfl ?_
    refine r_iald 347 dX15_binary_346 (fun _ _ _ => dsT_188 P W _) (fun _ _ => nn188) rfl ?_
    refine r_callvI 350 (Mc := MTw_and P W) (o := 100) (as := [aI (G 187 x5), aI (G 188 x5)]) (st := [aI x5, aR 189]) dX15_binary_347 rfl (c_Tw_and P W (G 187 x5) (G 188 x5) G) lkX15_646 (cmTw_and P W) rfl rfl rfl (fun _ => dsT_100 P W _) nn100 rfl (Nat.le_of_ble_eq_true rfl) (Nat.le_of_ble_eq_true rfl) (fun _ => rfl) rfl (fun z22 G23 => ?_)
    refine r_iast 351 dX15_binary_350 (fun _ _ _ => dsT_189 P W _) (fun _ _ => nn189) rfl ?_
    refine ss_tk (fun G24 => ?_)
    refine r_iinc 354 [(5, aI (x5 + 1)), (0, aR 100), (3, aI x3), (4, aI x4)] 3 dX15_binary_351 rfl rfl rfl rfl ?_
    refine r_goto 320 dX15_binary_354 rfl ?_
    refine r_to [1, 2, 3, 0] [(0, aR 100), (3, aI x3), (4, aI x4), (5, aI (x5 + 1))] rfl ?_
    exact SS.back (hX320 (x5 + 1, G24))
theorem sl_Tw_binary_320 (P W : Int) (x3 : Int) (x4 : Int) (x5 : Int) (G : St) : SS (MTw_binary P W) some 320 [(0, aR 100), (3, aI x3), (4, aI x4), (5, aI x5)] [] G (Tw_binary_l320 P W x3 x4 x5 G) := by
  exact SS.loop (σ := Int × St) (fun s => [(0, aR 100), (3, aI x3), (4, aI x4), (5, aI (s.1))]) (fun s => s.2) (fun s => Tw_binary_s320 P W x3 x4 s.1 s.2) (fun X320 hX320 s => s_Tw_binary_s320 P W x3 x4  X320 hX320 s.1 s.2) (x5, G)
theorem s_Tw_binary_b317 (P W : Int) (x3 : Int) (x4 : Int) (G : St) : SS (MTw_binary P W) some 317 [(0, aR 100), (3, aI x3), (4, aI x4)] [] G (Tw_binary_b317 P W x3 x4 G) := by
  refine r_iconst 318 0 dX15_binary_317 rfl rfl ?_
  refine r_istore 320 [(5, aI 0), (0, aR 100), (3, aI x3), (4, aI x4)] dX15_binary_318 rfl rfl rfl ?_
  refine r_to [1, 2, 3, 0] [(0, aR 100), (3, aI x3), (4, aI x4), (5, aI 0)] rfl ?_
  exact sl_Tw_binary_320 P W x3 x4 0 G
theorem s_Tw_binary_s363 (P W : Int) (x3 : Int) (x4 : Int) (X363 : Int × St → Option (Int × St)) (hX363 : ∀ s, So (MTw_binary P W) 363 [(0, aR 100), (3, aI x3), (4, aI x4), (5, aI (s.1))] [] s.2 (X363 s)) (x5 : Int) (G : St) : SS (MTw_binary P W) (lk X363 some) 363 [(0, aR 100), (3, aI x3), (4, aI x4), (5, aI x5)] [] G (Tw_binary_s363 P W x3 x4 x5 G) := by
  refine r_iload 365 3 dX15_binary_363 rfl rfl ?_
  refine r_iload_n 366 1 dX15_binary_365 rfl rfl rfl ?_
  refine r_icmp_ge 400 369 dX15_binary_366 rfl rfl ?_ ?_
  · refine SS.ex ?_
    refine r_goto 610 dX15_binary_400 rfl ?_
    refine r_to [0, 2] [(0, aR 100), (4, aI x4)] rfl ?_
    exact s_Tw_binary_b610 P W x4 G
  · refine r_aload_n 370 0 dX15_binary_369 rfl rfl rfl ?_
    refine r_get 373 (aR 189) dX15_binary_370 fkX15_167 (fun _ => dsT_100 P W _) nn100 rfl rfl ?_
    refine r_iload 375 3 dX15_binary_373 rfl rfl ?_
    refine r_aload_n 376 0 dX15_binary_375 rfl rfl rfl ?_
    refine r_aload_n 377 0 dX15_binary_376 rfl rfl rfl ?_
    refine r_get 380 (aR 187) dX15_binary_377 fkX15_161 (fun _ => dsT_100 P W _) nn100 rfl rfl ?_
    refine r_iload 382 3 dX15_binary_380 rfl rfl ?_
    refine r_iald 383 dX15_binary_382 (fun _ _ _ => dsT_187 P W _) (fun _ _ => nn187) rfl ?_
    refine r_aload_n 384 0 dX15_binary_383 rfl rfl rfl ?_
    refine r_get 387 (aR 188) dX15_binary_384 fkX15_164 (fun _ => dsT_100 P W _) nn100 rfl rfl ?_
    refine r_iload 389 3 dX15_binary_387 rfl rfl ?_
    refine r_iald 390 dX15_binary_389 (fun _ _ _ => dsT_188 P W _) (fun _ _ => nn188) rfl ?_
    refine r_callvI 393 (Mc := MTw_xor P W) (o := 100) (as := [aI (G 187 x5), aI (G 188 x5)]) (st := [aI x5, aR 189]) dX15_binary_390 rfl (c_Tw_xor P W (G 187 x5) (G 188 x5) G) lkX15_642 (cmTw_xor P W) rfl rfl rfl (fun _ => dsT_100 P W _) nn100 rfl (Nat.le_of_ble_eq_true rfl) (Nat.le_of_ble_eq_true rfl) (fun _ => rfl) rfl (fun z25 G26 => ?_)
    refine r_iast 394 dX15_binary_393 (fun _ _ _ => dsT_189 P W _) (fun _ _ => nn189) rfl ?_
    refine ss_tk (fun G27 => ?_)
    refine r_iinc 397 [(5, aI (x5 + 1)), (0, aR 100), (3, aI x3), (4, aI x4)] 3 dX15_binary_394 rfl rfl rfl rfl ?_
    refine r_goto 363 dX15_binary_397 rfl ?_
    refine r_to [1, 2, 3, 0] [(0, aR 100), (3, aI x3), (4, aI x4), (5, aI (x5 + 1))] rfl ?_
    exact SS.back (hX363 (x5 + 1, G27))
theorem sl_Tw_binary_363 (P W : Int) (x3 : Int) (x4 : Int) (x5 : Int) (G : St) : SS (MTw_binary P W) some 363 [(0, aR 100), (3, aI x3), (4, aI x4), (5, aI x5)] [] G (Tw_binary_l363 P W x3 x4 x5 G) := by
  exact SS.loop (σ := Int × St) (fun s => [(0, aR 100), (3, aI x3), (4, aI x4), (5, aI (s.1))]) (fun s => s.2) (fun s => Tw_binary_s363 P W x3 x4 s.1 s.2) (fun X363 hX363 s => s_Tw_binary_s363 P W x3 x4  X363 hX363 s.1 s.2) (x5, G)
theorem s_Tw_binary_b360 (P W : Int) (x3 : Int) (x4 : Int) (G : St) : SS (MTw_binary P W) some 360 [(0, aR 100), (3, aI x3), (4, aI x4)] [] G (Tw_binary_b360 P W x3 x4 G) := by
  refine r_iconst 361 0 dX15_binary_360 rfl rfl ?_
  refine r_istore 363 [(5, aI 0), (0, aR 100), (3, aI x3), (4, aI x4)] dX15_binary_361 rfl rfl rfl ?_
  refine r_to [1, 2, 3, 0] [(0, aR 100), (3, aI x3), (4, aI x4), (5, aI 0)] rfl ?_
  exact sl_Tw_binary_363 P W x3 x4 0 G
theorem s_Tw_binary_b424 (P W : Int) (s0 : Int) (s1 : Int) (s2 : Int) (G : St) : SS (MTw_binary P W) some 424 [(0, aR 100)] [aI s0, aI s1, aI s2, aR 189] G (Tw_binary_b424 P W s0 s1 s2 G) := by
  refine r_ixor 425 dX15_binary_424 rfl ?_
  refine r_iast 426 dX15_binary_425 (fun _ _ _ => dsT_189 P W _) (fun _ _ => nn189) rfl ?_
  refine ss_tk (fun G30 => ?_)
  refine r_iconst 427 1 dX15_binary_426 rfl rfl ?_
  refine r_istore 429 [(4, aI 1), (0, aR 100)] dX15_binary_427 rfl rfl rfl ?_
  refine r_goto 610 dX15_binary_429 rfl ?_
  refine r_to [1, 0] [(0, aR 100), (4, aI 1)] rfl ?_
  exact s_Tw_binary_b610 P W 1 G30
theorem s_Tw_binary_b403 (P W : Int) (x2 : Int) (x3 : Int) (G : St) : SS (MTw_binary P W) some 403 [(0, aR 100), (2, aI x2), (3, aI x3)] [] G (Tw_binary_b403 P W x2 x3 G) := by
  refine r_aload_n 404 0 dX15_binary_403 rfl rfl rfl ?_
  refine r_get 407 (aR 189) dX15_binary_404 fkX15_167 (fun _ => dsT_100 P W _) nn100 rfl rfl ?_
  refine r_iconst 408 0 dX15_binary_407 rfl rfl ?_
  refine r_aload_n 409 0 dX15_binary_408 rfl rfl rfl ?_
  refine r_iload_n 410 2 dX15_binary_409 rfl rfl rfl ?_
  refine r_callvI 413 (Mc := MTw_equal P W) (o := 100) (as := [aI x3]) (st := [aI 0, aR 189]) dX15_binary_410 rfl (c_Tw_equal P W x3 G) lkX15_725 (cmTw_equal P W) rfl rfl rfl (fun _ => dsT_100 P W _) nn100 rfl (Nat.le_of_ble_eq_true rfl) (Nat.le_of_ble_eq_true rfl) (fun _ => rfl) rfl (fun z28 G29 => ?_)
  refine r_iload_n 414 1 dX15_binary_413 rfl rfl rfl ?_
  refine r_bipush 416 7 dX15_binary_414 rfl rfl ?_
  refine SS.phi (fun VV_ => Tw_binary_b424 P W VV_ z28 0 G29) ?_
  refine r_icmp_ne 423 419 dX15_binary_416 rfl rfl ?_ ?_
  · refine r_iconst 424 0 dX15_binary_423 rfl rfl ?_
    refine r_to [0] [(0, aR 100)] rfl ?_
    exact s_Tw_binary_b424 P W 0 z28 0 G29
  · refine r_iconst 420 1 dX15_binary_419 rfl rfl ?_
    refine r_goto 424 dX15_binary_420 rfl ?_
    refine r_to [0] [(0, aR 100)] rfl ?_
    exact s_Tw_binary_b424 P W 1 z28 0 G29
theorem s_Tw_binary_b452 (P W : Int) (s0 : Int) (s1 : Int) (s2 : Int) (G : St) : SS (MTw_binary P W) some 452 [(0, aR 100)] [aI s0, aI s1, aI s2, aR 189] G (Tw_binary_b452 P W s0 s1 s2 G) := by
  refine r_ixor 453 dX15_binary_452 rfl ?_
  refine r_iast 454 dX15_binary_453 (fun _ _ _ => dsT_189 P W _) (fun _ _ => nn189) rfl ?_
  refine ss_tk (fun G33 => ?_)
  refine r_iconst 455 1 dX15_binary_454 rfl rfl ?_
  refine r_istore 457 [(4, aI 1), (0, aR 100)] dX15_binary_455 rfl rfl rfl ?_
  refine r_goto 610 dX15_binary_457 rfl ?_
  refine r_to [1, 0] [(0, aR 100), (4, aI 1)] rfl ?_
  exact s_Tw_binary_b610 P W 1 G33
theorem s_Tw_binary_b432 (P W : Int) (x2 : Int) (G : St) : SS (MTw_binary P W) some 432 [(0, aR 100), (2, aI x2)] [] G (Tw_binary_b432 P W x2 G) := by
  refine r_aload_n 433 0 dX15_binary_432 rfl rfl rfl ?_
  refine r_get 436 (aR 189) dX15_binary_433 fkX15_167 (fun _ => dsT_100 P W _) nn100 rfl rfl ?_
  refine r_iconst 437 0 dX15_binary_436 rfl rfl ?_
  refine r_aload_n 438 0 dX15_binary_437 rfl rfl rfl ?_
  refine r_callvI 441 (Mc := MTw_less P W) (o := 100) (as := []) (st := [aI 0, aR 189]) dX15_binary_438 rfl (c_Tw_less P W G) lkX15_734 (cmTw_less P W) rfl rfl rfl (fun _ => dsT_100 P W _) nn100 rfl (Nat.le_of_ble_eq_true rfl) (Nat.le_of_ble_eq_true rfl) (fun _ => rfl) rfl (fun z31 G32 => ?_)
  refine r_iload_n 442 1 dX15_binary_441 rfl rfl rfl ?_
  refine r_bipush 444 11 dX15_binary_442 rfl rfl ?_
  refine SS.phi (fun VV_ => Tw_binary_b452 P W VV_ z31 0 G32) ?_
  refine r_icmp_ne 451 447 dX15_binary_444 rfl rfl ?_ ?_
  · refine r_iconst 452 0 dX15_binary_451 rfl rfl ?_
    refine r_to [0] [(0, aR 100)] rfl ?_
    exact s_Tw_binary_b452 P W 0 z31 0 G32
  · refine r_iconst 448 1 dX15_binary_447 rfl rfl ?_
    refine r_goto 452 dX15_binary_448 rfl ?_
    refine r_to [0] [(0, aR 100)] rfl ?_
    exact s_Tw_binary_b452 P W 1 z31 0 G32
theorem s_Tw_binary_b484 (P W : Int) (s0 : Int) (s1 : Int) (s2 : Int) (G : St) : SS (MTw_binary P W) some 484 [(0, aR 100)] [aI s0, aI s1, aI s2, aR 189] G (Tw_binary_b484 P W s0 s1 s2 G) := by
  refine r_ixor 485 dX15_binary_484 rfl ?_
  refine r_iast 486 dX15_binary_485 (fun _ _ _ => dsT_189 P W _) (fun _ _ => nn189) rfl ?_
  refine ss_tk (fun G38 => ?_)
  refine r_iconst 487 1 dX15_binary_486 rfl rfl ?_
  refine r_istore 489 [(4, aI 1), (0, aR 100)] dX15_binary_487 rfl rfl rfl ?_
  refine r_goto 610 dX15_binary_489 rfl ?_
  refine r_to [1, 0] [(0, aR 100), (4, aI 1)] rfl ?_
  exact s_Tw_binary_b610 P W 1 G38
theorem s_Tw_binary_b460 (P W : Int) (x2 : Int) (G : St) : SS (MTw_binary P W) some 460 [(0, aR 100), (2, aI x2)] [] G (Tw_binary_b460 P W x2 G) := by
  refine r_aload_n 461 0 dX15_binary_460 rfl rfl rfl ?_
  refine r_callvV 464 (Mc := MTw_swap P W) (o := 100) (as := []) (st := []) dX15_binary_461 rfl (c_Tw_swap P W G) lkX15_737 (cmTw_swap P W) rfl rfl rfl (fun _ => dsT_100 P W _) nn100 rfl (Nat.le_of_ble_eq_true rfl) (Nat.le_of_ble_eq_true rfl) (fun _ => rfl) rfl (fun z34 G35 => ?_)
  refine r_aload_n 465 0 dX15_binary_464 rfl rfl rfl ?_
  refine r_get 468 (aR 189) dX15_binary_465 fkX15_167 (fun _ => dsT_100 P W _) nn100 rfl rfl ?_
  refine r_iconst 469 0 dX15_binary_468 rfl rfl ?_
  refine r_aload_n 470 0 dX15_binary_469 rfl rfl rfl ?_
  refine r_callvI 473 (Mc := MTw_less P W) (o := 100) (as := []) (st := [aI 0, aR 189]) dX15_binary_470 rfl (c_Tw_less P W G35) lkX15_734 (cmTw_less P W) rfl rfl rfl (fun _ => dsT_100 P W _) nn100 rfl (Nat.le_of_ble_eq_true rfl) (Nat.le_of_ble_eq_true rfl) (fun _ => rfl) rfl (fun z36 G37 => ?_)
  refine r_iload_n 474 1 dX15_binary_473 rfl rfl rfl ?_
  refine r_bipush 476 9 dX15_binary_474 rfl rfl ?_
  refine SS.phi (fun VV_ => Tw_binary_b484 P W VV_ z36 0 G37) ?_
  refine r_icmp_ne 483 479 dX15_binary_476 rfl rfl ?_ ?_
  · refine r_iconst 484 0 dX15_binary_483 rfl rfl ?_
    refine r_to [0] [(0, aR 100)] rfl ?_
    exact s_Tw_binary_b484 P W 0 z36 0 G37
  · refine r_iconst 480 1 dX15_binary_479 rfl rfl ?_
    refine r_goto 484 dX15_binary_480 rfl ?_
    refine r_to [0] [(0, aR 100)] rfl ?_
    exact s_Tw_binary_b484 P W 1 z36 0 G37
theorem s_Tw_binary_b603 (P W : Int) (x2 : Int) (x4 : Int) (X565 : Int × St → Option (Int × St)) (hX565 : ∀ s, So (MTw_binary P W) 565 [(0, aR 100), (2, aI x2), (4, aI x4), (5, aI (s.1))] [] s.2 (X565 s)) (x5 : Int) (s0 : Int) (s1 : Int) (G : St) : SS (MTw_binary P W) (lk X565 some) 603 [(0, aR 100), (2, aI x2), (4, aI x4), (5, aI x5)] [aI s0, aI s1, aR 189] G (Tw_binary_b603 P W x2 x4 x5 s0 s1 G) := by
  refine r_iast 604 dX15_binary_603 (fun _ _ _ => dsT_189 P W _) (fun _ _ => nn189) rfl ?_
  refine ss_tk (fun G41 => ?_)
  refine r_iinc 607 [(5, aI (x5 + 1)), (0, aR 100), (2, aI x2), (4, aI x4)] 3 dX15_binary_604 rfl rfl rfl rfl ?_
  refine r_goto 565 dX15_binary_607 rfl ?_
  refine r_to [1, 2, 3, 0] [(0, aR 100), (2, aI x2), (4, aI x4), (5, aI (x5 + 1))] rfl ?_
  exact SS.back (hX565 (x5 + 1, G41))
theorem s_Tw_binary_s565 (P W : Int) (x2 : Int) (x4 : Int) (X565 : Int × St → Option (Int × St)) (hX565 : ∀ s, So (MTw_binary P W) 565 [(0, aR 100), (2, aI x2), (4, aI x4), (5, aI (s.1))] [] s.2 (X565 s)) (x5 : Int) (G : St) : SS (MTw_binary P W) (lk X565 some) 565 [(0, aR 100), (2, aI x2), (4, aI x4), (5, aI x5)] [] G (Tw_binary_s565 P W x2 x4 x5 G) := by
  refine r_iload 567 3 dX15_binary_565 rfl rfl ?_
  refine r_aload_n 568 0 dX15_binary_567 rfl rfl rfl ?_
  refine r_get 571 (aI W) dX15_binary_568 fkX15_303 (fun _ => dsT_100 P W _) nn100 rfl rfl ?_
  refine r_icmp_ge 610 574 dX15_binary_571 rfl rfl ?_ ?_
  · refine SS.ex ?_
    refine r_to [0, 2] [(0, aR 100), (4, aI x4)] rfl ?_
    exact s_Tw_binary_b610 P W x4 G
  · refine r_aload_n 575 0 dX15_binary_574 rfl rfl rfl ?_
    refine r_get 578 (aR 189) dX15_binary_575 fkX15_167 (fun _ => dsT_100 P W _) nn100 rfl rfl ?_
    refine r_iload 580 3 dX15_binary_578 rfl rfl ?_
    refine r_iload_n 581 1 dX15_binary_580 rfl rfl rfl ?_
    refine r_bipush 583 17 dX15_binary_581 rfl rfl ?_
    refine r_icmp_ne 596 586 dX15_binary_583 rfl rfl ?_ ?_
    · refine r_aload_n 597 0 dX15_binary_596 rfl rfl rfl ?_
      refine r_get 600 (aR 193) dX15_binary_597 fkX15_179 (fun _ => dsT_100 P W _) nn100 rfl rfl ?_
      refine r_iload 602 3 dX15_binary_600 rfl rfl ?_
      refine r_iald 603 dX15_binary_602 (fun _ _ _ => dsT_193 P W _) (fun _ _ => nn193) rfl ?_
      exact s_Tw_binary_b603 P W x2 x4 X565 hX565 x5 (G 193 x5) x5 G
    · refine r_aload_n 587 0 dX15_binary_586 rfl rfl rfl ?_
      refine r_get 590 (aR 194) dX15_binary_587 fkX15_182 (fun _ => dsT_100 P W _) nn100 rfl rfl ?_
      refine r_iload 592 3 dX15_binary_590 rfl rfl ?_
      refine r_iald 593 dX15_binary_592 (fun _ _ _ => dsT_194 P W _) (fun _ _ => nn194) rfl ?_
      refine r_goto 603 dX15_binary_593 rfl ?_
      exact s_Tw_binary_b603 P W x2 x4 X565 hX565 x5 (G 194 x5) x5 G
theorem sl_Tw_binary_565 (P W : Int) (x2 : Int) (x4 : Int) (x5 : Int) (G : St) : SS (MTw_binary P W) some 565 [(0, aR 100), (2, aI x2), (4, aI x4), (5, aI x5)] [] G (Tw_binary_l565 P W x2 x4 x5 G) := by
  exact SS.loop (σ := Int × St) (fun s => [(0, aR 100), (2, aI x2), (4, aI x4), (5, aI (s.1))]) (fun s => s.2) (fun s => Tw_binary_s565 P W x2 x4 s.1 s.2) (fun X565 hX565 s => s_Tw_binary_s565 P W x2 x4  X565 hX565 s.1 s.2) (x5, G)
theorem s_Tw_binary_b558 (P W : Int) (x2 : Int) (x4 : Int) (G : St) : SS (MTw_binary P W) some 558 [(0, aR 100), (2, aI x2), (4, aI x4)] [] G (Tw_binary_b558 P W x2 x4 G) := by
  refine r_aload_n 559 0 dX15_binary_558 rfl rfl rfl ?_
  refine r_callvV 562 (Mc := MTw_divide P W) (o := 100) (as := []) (st := []) dX15_binary_559 rfl (c_Tw_divide P W G) lkX15_743 (cmTw_divide P W) rfl rfl rfl (fun _ => dsT_100 P W _) nn100 rfl (Nat.le_of_ble_eq_true rfl) (Nat.le_of_ble_eq_true rfl) (fun _ => rfl) rfl (fun z39 G40 => ?_)
  refine r_iconst 563 0 dX15_binary_562 rfl rfl ?_
  refine r_istore 565 [(5, aI 0), (0, aR 100), (2, aI x2), (4, aI x4)] dX15_binary_563 rfl rfl rfl ?_
  refine r_to [1, 2, 3, 0] [(0, aR 100), (2, aI x2), (4, aI x4), (5, aI 0)] rfl ?_
  exact sl_Tw_binary_565 P W x2 x4 0 G40
theorem s_Tw_binary_b492 (P W : Int) (x4 : Int) (G : St) : SS (MTw_binary P W) some 492 [(0, aR 100), (4, aI x4)] [] G (Tw_binary_b492 P W x4 G) := by
  refine r_aload_n 493 0 dX15_binary_492 rfl rfl rfl ?_
  refine r_aload_n 494 0 dX15_binary_493 rfl rfl rfl ?_
  refine r_get 497 (aI W) dX15_binary_494 fkX15_303 (fun _ => dsT_100 P W _) nn100 rfl rfl ?_
  refine r_bipush 499 (-2) dX15_binary_497 rfl rfl ?_
  refine r_callvV 502 (Mc := MTw_sum P W) (o := 100) (as := [aI W, aI (-2)]) (st := []) dX15_binary_499 rfl (c_Tw_sum P W W (-2) G) lkX15_652 (cmTw_sum P W) rfl rfl rfl (fun _ => dsT_100 P W _) nn100 rfl (Nat.le_of_ble_eq_true rfl) (Nat.le_of_ble_eq_true rfl) (fun _ => rfl) rfl (fun z42 G43 => ?_)
  refine r_goto 610 dX15_binary_502 rfl ?_
  exact s_Tw_binary_b610 P W x4 G43
theorem s_Tw_binary_s508 (P W : Int) (x4 : Int) (X508 : Int × St → Option (Int × St)) (hX508 : ∀ s, So (MTw_binary P W) 508 [(0, aR 100), (4, aI x4), (5, aI (s.1))] [] s.2 (X508 s)) (x5 : Int) (G : St) : SS (MTw_binary P W) (lk X508 some) 508 [(0, aR 100), (4, aI x4), (5, aI x5)] [] G (Tw_binary_s508 P W x4 x5 G) := by
  refine r_iload 510 2 dX15_binary_508 rfl rfl ?_
  refine r_aload_n 511 0 dX15_binary_510 rfl rfl rfl ?_
  refine r_get 514 (aI W) dX15_binary_511 fkX15_303 (fun _ => dsT_100 P W _) nn100 rfl rfl ?_
  refine r_icmp_ge 539 517 dX15_binary_514 rfl rfl ?_ ?_
  · refine SS.ex ?_
    refine r_aload_n 540 0 dX15_binary_539 rfl rfl rfl ?_
    refine r_aload_n 541 0 dX15_binary_540 rfl rfl rfl ?_
    refine r_get 544 (aI W) dX15_binary_541 fkX15_303 (fun _ => dsT_100 P W _) nn100 rfl rfl ?_
    refine r_iconst 545 (-1) dX15_binary_544 rfl rfl ?_
    refine r_callvV 548 (Mc := MTw_sum P W) (o := 100) (as := [aI W, aI (-1)]) (st := []) dX15_binary_545 rfl (c_Tw_sum P W W (-1) G) lkX15_652 (cmTw_sum P W) rfl rfl rfl (fun _ => dsT_100 P W _) nn100 rfl (Nat.le_of_ble_eq_true rfl) (Nat.le_of_ble_eq_true rfl) (fun _ => rfl) rfl (fun z44 G45 => ?_)
    refine r_goto 610 dX15_binary_548 rfl ?_
    refine r_to [0, 1] [(0, aR 100), (4, aI x4)] rfl ?_
    exact s_Tw_binary_b610 P W x4 G45
  · refine r_aload_n 518 0 dX15_binary_517 rfl rfl rfl ?_
    refine r_get 521 (aR 188) dX15_binary_518 fkX15_164 (fun _ => dsT_100 P W _) nn100 rfl rfl ?_
    refine r_iload 523 2 dX15_binary_521 rfl rfl ?_
    refine r_aload_n 524 0 dX15_binary_523 rfl rfl rfl ?_
    refine r_get 527 (aR 188) dX15_binary_524 fkX15_164 (fun _ => dsT_100 P W _) nn100 rfl rfl ?_
    refine r_iload 529 2 dX15_binary_527 rfl rfl ?_
    refine r_iald 530 dX15_binary_529 (fun _ _ _ => dsT_188 P W _) (fun _ _ => nn188) rfl ?_
    refine r_iconst 531 1 dX15_binary_530 rfl rfl ?_
    refine r_ixor 532 dX15_binary_531 rfl ?_
    refine r_iast 533 dX15_binary_532 (fun _ _ _ => dsT_188 P W _) (fun _ _ => nn188) rfl ?_
    refine ss_tk (fun G46 => ?_)
    refine r_iinc 536 [(5, aI (x5 + 1)), (0, aR 100), (4, aI x4)] 2 dX15_binary_533 rfl rfl rfl rfl ?_
    refine r_goto 508 dX15_binary_536 rfl ?_
    refine r_to [1, 2, 0] [(0, aR 100), (4, aI x4), (5, aI (x5 + 1))] rfl ?_
    exact SS.back (hX508 (x5 + 1, G46))
theorem sl_Tw_binary_508 (P W : Int) (x4 : Int) (x5 : Int) (G : St) : SS (MTw_binary P W) some 508 [(0, aR 100), (4, aI x4), (5, aI x5)] [] G (Tw_binary_l508 P W x4 x5 G) := by
  exact SS.loop (σ := Int × St) (fun s => [(0, aR 100), (4, aI x4), (5, aI (s.1))]) (fun s => s.2) (fun s => Tw_binary_s508 P W x4 s.1 s.2) (fun X508 hX508 s => s_Tw_binary_s508 P W x4  X508 hX508 s.1 s.2) (x5, G)
theorem s_Tw_binary_b505 (P W : Int) (x4 : Int) (G : St) : SS (MTw_binary P W) some 505 [(0, aR 100), (4, aI x4)] [] G (Tw_binary_b505 P W x4 G) := by
  refine r_iconst 506 0 dX15_binary_505 rfl rfl ?_
  refine r_istore 508 [(5, aI 0), (0, aR 100), (4, aI x4)] dX15_binary_506 rfl rfl rfl ?_
  refine r_to [1, 2, 0] [(0, aR 100), (4, aI x4), (5, aI 0)] rfl ?_
  exact sl_Tw_binary_508 P W x4 0 G
theorem s_Tw_binary_b551 (P W : Int) (x4 : Int) (G : St) : SS (MTw_binary P W) some 551 [(0, aR 100), (4, aI x4)] [] G (Tw_binary_b551 P W x4 G) := by
  refine r_aload_n 552 0 dX15_binary_551 rfl rfl rfl ?_
  refine r_callvV 555 (Mc := MTw_multiply P W) (o := 100) (as := []) (st := []) dX15_binary_552 rfl (c_Tw_multiply P W G) lkX15_740 (cmTw_multiply P W) rfl rfl rfl (fun _ => dsT_100 P W _) nn100 rfl (Nat.le_of_ble_eq_true rfl) (Nat.le_of_ble_eq_true rfl) (fun _ => rfl) rfl (fun z47 G48 => ?_)
  refine r_goto 610 dX15_binary_555 rfl ?_
  exact s_Tw_binary_b610 P W x4 G48
theorem s_Tw_binary (P W : Int) (x1 : Int) (G : St) : SS (MTw_binary P W) some 0 [(0, aR 100), (1, aI x1)] [] G (Tw_binary P W x1 G) := by
  refine r_aload_n 1 0 dX15_binary_0 rfl rfl rfl ?_
  refine r_get 4 (aR 116) dX15_binary_1 fkX15_25 (fun _ => dsT_100 P W _) nn100 rfl rfl ?_
  refine r_iload_n 5 1 dX15_binary_4 rfl rfl rfl ?_
  refine r_iald 6 dX15_binary_5 (fun _ _ _ => dsT_116 P W _) (fun _ _ => nn116) rfl ?_
  refine r_istore_n 7 [(2, aI (G 116 x1)), (0, aR 100), (1, aI x1)] dX15_binary_6 rfl rfl rfl rfl ?_
  refine r_aload_n 8 1 dX15_binary_7 rfl rfl rfl ?_
  refine r_aload_n 9 1 dX15_binary_8 rfl rfl rfl ?_
  refine r_get 12 (aR 117) dX15_binary_9 fkX15_28 (fun _ => dsT_100 P W _) nn100 rfl rfl ?_
  refine r_iload_n 13 2 dX15_binary_12 rfl rfl rfl ?_
  refine r_iald 14 dX15_binary_13 (fun _ _ _ => dsT_117 P W _) (fun _ _ => nn117) rfl ?_
  refine r_callvI 17 (Mc := MTw_widthOf P W) (o := 100) (as := [aI (G 117 x1)]) (st := []) dX15_binary_14 rfl (c_Tw_widthOf P W (G 117 x1) G) lkX15_666 (cmTw_widthOf P W) rfl rfl rfl (fun _ => dsT_100 P W _) nn100 rfl (Nat.le_of_ble_eq_true rfl) (Nat.le_of_ble_eq_true rfl) (fun _ => rfl) rfl (fun z1 G2 => ?_)
  refine r_istore_n 18 [(3, aI z1), (2, aI (G 116 x1)), (0, aR 100), (1, aI x1)] dX15_binary_17 rfl rfl rfl rfl ?_
  refine r_iload_n 19 1 dX15_binary_18 rfl rfl rfl ?_
  refine r_bipush 21 12 dX15_binary_19 rfl rfl ?_
  refine r_icmp_eq 30 24 dX15_binary_21 rfl rfl ?_ ?_
  · refine r_to [2, 3, 1] [(0, aR 100), (1, aI x1), (2, aI (G 116 x1))] rfl ?_
    exact s_Tw_binary_b30 P W x1 (G 116 x1) G2
  · refine r_iload_n 25 1 dX15_binary_24 rfl rfl rfl ?_
    refine r_bipush 27 13 dX15_binary_25 rfl rfl ?_
    refine r_icmp_ne 176 30 dX15_binary_27 rfl rfl ?_ ?_
    · refine r_aload_n 177 2 dX15_binary_176 rfl rfl rfl ?_
      refine r_iload_n 178 0 dX15_binary_177 rfl rfl rfl ?_
      refine r_callvV 181 (Mc := MTw_popY P W) (o := 100) (as := [aI z1]) (st := []) dX15_binary_178 rfl (c_Tw_popY P W z1 G2) lkX15_722 (cmTw_popY P W) rfl rfl rfl (fun _ => dsT_100 P W _) nn100 rfl (Nat.le_of_ble_eq_true rfl) (Nat.le_of_ble_eq_true rfl) (fun _ => rfl) rfl (fun z13 G14 => ?_)
      refine r_aload_n 182 2 dX15_binary_181 rfl rfl rfl ?_
      refine r_iload_n 183 0 dX15_binary_182 rfl rfl rfl ?_
      refine r_callvV 186 (Mc := MTw_popX P W) (o := 100) (as := [aI z1]) (st := []) dX15_binary_183 rfl (c_Tw_popX P W z1 G14) lkX15_709 (cmTw_popX P W) rfl rfl rfl (fun _ => dsT_100 P W _) nn100 rfl (Nat.le_of_ble_eq_true rfl) (Nat.le_of_ble_eq_true rfl) (fun _ => rfl) rfl (fun z15 G16 => ?_)
      refine r_iload_n 187 0 dX15_binary_186 rfl rfl rfl ?_
      refine r_istore 189 [(4, aI z1), (3, aI z1), (2, aI (G 116 x1)), (0, aR 100), (1, aI x1)] dX15_binary_187 rfl rfl rfl ?_
      refine r_iload_n 190 2 dX15_binary_189 rfl rfl rfl ?_
      refine r_tsw 558 [(268, Tw_binary_b268 P W z1 z1 G16), (317, Tw_binary_b317 P W z1 z1 G16), (268, Tw_binary_b268 P W z1 z1 G16), (360, Tw_binary_b360 P W z1 z1 G16), (317, Tw_binary_b317 P W z1 z1 G16), (403, Tw_binary_b403 P W (G 116 x1) z1 G16), (403, Tw_binary_b403 P W (G 116 x1) z1 G16), (432, Tw_binary_b432 P W (G 116 x1) G16), (460, Tw_binary_b460 P W (G 116 x1) G16), (460, Tw_binary_b460 P W (G 116 x1) G16), (432, Tw_binary_b432 P W (G 116 x1) G16), (558, Tw_binary_b558 P W (G 116 x1) z1 G16), (558, Tw_binary_b558 P W (G 116 x1) z1 G16), (492, Tw_binary_b492 P W z1 G16), (505, Tw_binary_b505 P W z1 G16), (551, Tw_binary_b551 P W z1 G16)] dX15_binary_190 rfl rfl rfl ⟨?_, ?_, ?_, ?_, ?_, ?_, ?_, ?_, ?_, ?_, ?_, ?_, ?_, ?_, ?_, ?_, trivial⟩ ?_
      · refine r_to [3, 1, 0] [(0, aR 100), (3, aI z1), (4, aI z1)] rfl ?_
        exact s_Tw_binary_b268 P W z1 z1 G16
      · refine r_to [3, 1, 0] [(0, aR 100), (3, aI z1), (4, aI z1)] rfl ?_
        exact s_Tw_binary_b317 P W z1 z1 G16
      · refine r_to [3, 1, 0] [(0, aR 100), (3, aI z1), (4, aI z1)] rfl ?_
        exact s_Tw_binary_b268 P W z1 z1 G16
      · refine r_to [3, 1, 0] [(0, aR 100), (3, aI z1), (4, aI z1)] rfl ?_
        exact s_Tw_binary_b360 P W z1 z1 G16
      · refine r_to [3, 1, 0] [(0, aR 100), (3, aI z1), (4, aI z1)] rfl ?_
        exact s_Tw_binary_b317 P W z1 z1 G16
      · refine r_to [3, 2, 1] [(0, aR 100), (2, aI (G 116 x1)), (3, aI z1)] rfl ?_
        exact s_Tw_binary_b403 P W (G 116 x1) z1 G16
      · refine r_to [3, 2, 1] [(0, aR 100), (2, aI (G 116 x1)), (3, aI z1)] rfl ?_
        exact s_Tw_binary_b403 P W (G 116 x1) z1 G16
      · refine r_to [3, 2] [(0, aR 100), (2, aI (G 116 x1))] rfl ?_
        exact s_Tw_binary_b432 P W (G 116 x1) G16
      · refine r_to [3, 2] [(0, aR 100), (2, aI (G 116 x1))] rfl ?_
        exact s_Tw_binary_b460 P W (G 116 x1) G16
      · refine r_to [3, 2] [(0, aR 100), (2, aI (G 116 x1))] rfl ?_
        exact s_Tw_binary_b460 P W (G 116 x1) G16
      · refine r_to [3, 2] [(0, aR 100), (2, aI (G 116 x1))] rfl ?_
        exact s_Tw_binary_b432 P W (G 116 x1) G16
      · refine r_to [3, 2, 0] [(0, aR 100), (2, aI (G 116 x1)), (4, aI z1)] rfl ?_
        exact s_Tw_binary_b558 P W (G 116 x1) z1 G16
      · refine r_to [3, 2, 0] [(0, aR 100), (2, aI (G 116 x1)), (4, aI z1)] rfl ?_
        exact s_Tw_binary_b558 P W (G 116 x1) z1 G16
      · refine r_to [3, 0] [(0, aR 100), (4, aI z1)] rfl ?_
        exact s_Tw_binary_b492 P W z1 G16
      · refine r_to [3, 0] [(0, aR 100), (4, aI z1)] rfl ?_
        exact s_Tw_binary_b505 P W z1 G16
      · refine r_to [3, 0] [(0, aR 100), (4, aI z1)] rfl ?_
        exact s_Tw_binary_b551 P W z1 G16
      · refine r_to [3, 2, 0] [(0, aR 100), (2, aI (G 116 x1)), (4, aI z1)] rfl ?_
        exact s_Tw_binary_b558 P W (G 116 x1) z1 G16
    · refine r_to [2, 3, 1] [(0, aR 100), (1, aI x1), (2, aI (G 116 x1))] rfl ?_
      exact s_Tw_binary_b30 P W x1 (G 116 x1) G2
theorem c_Tw_binary (P W : Int) (x1 : Int) (G : St) : MG (MTw_binary P W) [aR 100, aI x1] G (Tw_binary P W x1 G) := MG.of plX15 (Nat.le_of_ble_eq_true rfl) (s_Tw_binary P W x1 G)
theorem s_Tw_bodyOf (P W : Int) (x1 : Int) (G : St) : SS (MTw_bodyOf P W) some 0 [(0, aR 100), (1, aI x1)] [] G (Tw_bodyOf x1 G) := by
  refine r_iload_n 1 1 dX15_bodyOf_0 rfl rfl rfl ?_
  refine r_aload_n 2 0 dX15_bodyOf_1 rfl rfl rfl ?_
  refine r_get 5 (aR 117) dX15_bodyOf_2 fkX15_28 (fun _ => dsT_100 P W _) nn100 rfl rfl ?_
  refine r_iload_n 6 1 dX15_bodyOf_5 rfl rfl rfl ?_
  refine r_iald 7 dX15_bodyOf_6 (fun _ _ _ => dsT_117 P W _) (fun _ _ => nn117) rfl ?_
  refine r_iadd 8 dX15_bodyOf_7 rfl ?_
  refine r_iconst 9 2 dX15_bodyOf_8 rfl rfl ?_
  refine r_iadd 10 dX15_bodyOf_9 rfl ?_
  exact r_ireturn dX15_bodyOf_10 rfl
theorem c_Tw_bodyOf (P W : Int) (x1 : Int) (G : St) : MG (MTw_bodyOf P W) [aR 100, aI x1] G (Tw_bodyOf x1 G) := MG.of plX15 (Nat.le_of_ble_eq_true rfl) (s_Tw_bodyOf P W x1 G)
theorem s_Tw_constantZ_b32 (P W : Int) (x1 : Int) (x3 : Int) (X3 : Int × St → Option (Int × St)) (hX3 : ∀ s, So (MTw_constantZ P W) 3 [(0, aR 100), (1, aL x1), (3, aI x3), (4, aI (s.1))] [] s.2 (X3 s)) (x4 : Int) (s0 : Int) (s1 : Int) (G : St) : SS (MTw_constantZ P W) (lk X3 some) 32 [(0, aR 100), (1, aL x1), (3, aI x3), (4, aI x4)] [aI s0, aI s1, aR 189] G (Tw_constantZ_b32 x1 x3 x4 s0 s1 G) := by
  refine r_iast 33 dX15_constantZ_32 (fun _ _ _ => dsT_189 P W _) (fun _ _ => nn189) rfl ?_
  refine ss_tk (fun G1 => ?_)
  refine r_iinc 36 [(4, aI (x4 + 1)), (0, aR 100), (1, aL x1), (3, aI x3)] 3 dX15_constantZ_33 rfl rfl rfl rfl ?_
  refine r_goto 3 dX15_constantZ_36 rfl ?_
  refine r_to [1, 2, 3, 0] [(0, aR 100), (1, aL x1), (3, aI x3), (4, aI (x4 + 1))] rfl ?_
  exact SS.back (hX3 (x4 + 1, G1))
theorem s_Tw_constantZ_s3 (P W : Int) (x1 : Int) (x3 : Int) (X3 : Int × St → Option (Int × St)) (hX3 : ∀ s, So (MTw_constantZ P W) 3 [(0, aR 100), (1, aL x1), (3, aI x3), (4, aI (s.1))] [] s.2 (X3 s)) (x4 : Int) (G : St) : SS (MTw_constantZ P W) (lk X3 some) 3 [(0, aR 100), (1, aL x1), (3, aI x3), (4, aI x4)] [] G (Tw_constantZ_s3 x1 x3 x4 G) := by
  refine r_iload 5 3 dX15_constantZ_3 rfl rfl ?_
  refine r_iload_n 6 2 dX15_constantZ_5 rfl rfl rfl ?_
  refine r_icmp_ge 39 9 dX15_constantZ_6 rfl rfl ?_ ?_
  · refine SS.ex ?_
    exact r_return dX15_constantZ_39 rfl
  · refine r_aload_n 10 0 dX15_constantZ_9 rfl rfl rfl ?_
    refine r_get 13 (aR 189) dX15_constantZ_10 fkX15_167 (fun _ => dsT_100 P W _) nn100 rfl rfl ?_
    refine r_iload 15 3 dX15_constantZ_13 rfl rfl ?_
    refine r_lload_n 16 1 dX15_constantZ_15 rfl rfl rfl ?_
    refine r_iload 18 3 dX15_constantZ_16 rfl rfl ?_
    refine r_lshr 19 dX15_constantZ_18 rfl ?_
    refine r_lconst 20 1 dX15_constantZ_19 rfl rfl rfl ?_
    refine r_land 21 dX15_constantZ_20 rfl ?_
    refine r_lconst 22 1 dX15_constantZ_21 rfl rfl rfl ?_
    refine SS.phi (fun VV_ => Tw_constantZ_b32 x1 x3 x4 VV_ x4 G) ?_
    refine r_lif_ne 23 30 26 dX15_constantZ_22 rfl dX15_constantZ_23 rfl rfl ?_ ?_
    · refine r_bipush 32 (-2) dX15_constantZ_30 rfl rfl ?_
      exact s_Tw_constantZ_b32 P W x1 x3 X3 hX3 x4 (-2) x4 G
    · refine r_iconst 27 (-1) dX15_constantZ_26 rfl rfl ?_
      refine r_goto 32 dX15_constantZ_27 rfl ?_
      exact s_Tw_constantZ_b32 P W x1 x3 X3 hX3 x4 (-1) x4 G
theorem sl_Tw_constantZ_3 (P W : Int) (x1 : Int) (x3 : Int) (x4 : Int) (G : St) : SS (MTw_constantZ P W) some 3 [(0, aR 100), (1, aL x1), (3, aI x3), (4, aI x4)] [] G (Tw_constantZ_l3 x1 x3 x4 G) := by
  exact SS.loop (σ := Int × St) (fun s => [(0, aR 100), (1, aL x1), (3, aI x3), (4, aI (s.1))]) (fun s => s.2) (fun s => Tw_constantZ_s3 x1 x3 s.1 s.2) (fun X3 hX3 s => s_Tw_constantZ_s3 P W x1 x3  X3 hX3 s.1 s.2) (x4, G)
theorem s_Tw_constantZ (P W : Int) (x1 : Int) (x3 : Int) (G : St) : SS (MTw_constantZ P W) some 0 [(0, aR 100), (1, aL x1), (3, aI x3)] [] G (Tw_constantZ x1 x3 G) := by
  refine r_iconst 1 0 dX15_constantZ_0 rfl rfl ?_
  refine r_istore 3 [(4, aI 0), (0, aR 100), (1, aL x1), (3, aI x3)] dX15_constantZ_1 rfl rfl rfl ?_
  refine r_to [1, 2, 3, 0] [(0, aR 100), (1, aL x1), (3, aI x3), (4, aI 0)] rfl ?_
  exact sl_Tw_constantZ_3 P W x1 x3 0 G
theorem c_Tw_constantZ (P W : Int) (x1 : Int) (x3 : Int) (G : St) : MG (MTw_constantZ P W) [aR 100, aL x1, aI x3] G (Tw_constantZ x1 x3 G) := MG.of plX15 (Nat.le_of_ble_eq_true rfl) (s_Tw_constantZ P W x1 x3 G)
theorem s_Tw_elementBit (P W : Int) (x1 : Int) (x2 : Int) (x3 : Int) (G : St) : SS (MTw_elementBit P W) some 0 [(0, aR 100), (1, aI x1), (2, aI x2), (3, aI x3)] [] G (Tw_elementBit x1 x2 x3 G) := by
  refine r_aload_n 1 0 dX15_elementBit_0 rfl rfl rfl ?_
  refine r_get 4 (aR 151) dX15_elementBit_1 fkX15_96 (fun _ => dsT_100 P W _) nn100 rfl rfl ?_
  refine r_iload_n 5 1 dX15_elementBit_4 rfl rfl rfl ?_
  refine r_iald 6 dX15_elementBit_5 (fun _ _ _ => dsT_151 P W _) (fun _ _ => nn151) rfl ?_
  refine r_iconst 7 1 dX15_elementBit_6 rfl rfl ?_
  refine r_icmp_ne 30 10 dX15_elementBit_7 rfl rfl ?_ ?_
  · refine r_aload_n 31 0 dX15_elementBit_30 rfl rfl rfl ?_
    refine r_get 34 (aR 197) dX15_elementBit_31 fkX15_188 (fun _ => dsT_100 P W _) nn100 rfl rfl ?_
    refine r_bipush 36 32 dX15_elementBit_34 rfl rfl ?_
    refine r_aload_n 37 0 dX15_elementBit_36 rfl rfl rfl ?_
    refine r_get 40 (aR 152) dX15_elementBit_37 fkX15_99 (fun _ => dsT_100 P W _) nn100 rfl rfl ?_
    refine r_iload_n 41 1 dX15_elementBit_40 rfl rfl rfl ?_
    refine r_iald 42 dX15_elementBit_41 (fun _ _ _ => dsT_152 P W _) (fun _ _ => nn152) rfl ?_
    refine r_iload_n 43 2 dX15_elementBit_42 rfl rfl rfl ?_
    refine r_iadd 44 dX15_elementBit_43 rfl ?_
    refine r_imul 45 dX15_elementBit_44 rfl ?_
    refine r_iload_n 46 3 dX15_elementBit_45 rfl rfl rfl ?_
    refine r_iadd 47 dX15_elementBit_46 rfl ?_
    refine r_iald 48 dX15_elementBit_47 (fun _ _ _ => dsT_197 P W _) (fun _ _ => nn197) rfl ?_
    exact r_ireturn dX15_elementBit_48 rfl
  · refine r_iconst 11 2 dX15_elementBit_10 rfl rfl ?_
    refine r_aload_n 12 0 dX15_elementBit_11 rfl rfl rfl ?_
    refine r_get 15 (aR 179) dX15_elementBit_12 fkX15_142 (fun _ => dsT_100 P W _) nn100 rfl rfl ?_
    refine r_aload_n 16 0 dX15_elementBit_15 rfl rfl rfl ?_
    refine r_get 19 (aR 152) dX15_elementBit_16 fkX15_99 (fun _ => dsT_100 P W _) nn100 rfl rfl ?_
    refine r_iload_n 20 1 dX15_elementBit_19 rfl rfl rfl ?_
    refine r_iald 21 dX15_elementBit_20 (fun _ _ _ => dsT_152 P W _) (fun _ _ => nn152) rfl ?_
    refine r_iload_n 22 2 dX15_elementBit_21 rfl rfl rfl ?_
    refine r_iadd 23 dX15_elementBit_22 rfl ?_
    refine r_iald 24 dX15_elementBit_23 (fun _ _ _ => dsT_179 P W _) (fun _ _ => nn179) rfl ?_
    refine r_iload_n 25 3 dX15_elementBit_24 rfl rfl rfl ?_
    refine r_iadd 26 dX15_elementBit_25 rfl ?_
    refine r_imul 27 dX15_elementBit_26 rfl ?_
    refine r_goto 48 dX15_elementBit_27 rfl ?_
    exact r_ireturn dX15_elementBit_48 rfl
theorem c_Tw_elementBit (P W : Int) (x1 : Int) (x2 : Int) (x3 : Int) (G : St) : MG (MTw_elementBit P W) [aR 100, aI x1, aI x2, aI x3] G (Tw_elementBit x1 x2 x3 G) := MG.of plX15 (Nat.le_of_ble_eq_true rfl) (s_Tw_elementBit P W x1 x2 x3 G)
theorem s_Tw_isIndex_b74 (P W : Int) (x1 : Int) (X24 : Int × St → Option (Int × St)) (hX24 : ∀ s, So (MTw_isIndex P W) 24 [(0, aR 100), (1, aI x1), (2, aI (s.1))] [] s.2 (X24 s)) (x2 : Int) (s0 : Int) (s1 : Int) (G : St) : SS (MTw_isIndex P W) (lk X24 some) 74 [(0, aR 100), (1, aI x1), (2, aI x2)] [aI s0, aI s1, aR 188] G (Tw_isIndex_b74 P W x1 x2 s0 s1 G) := by
  refine r_iast 75 dX15_isIndex_74 (fun _ _ _ => dsT_188 P W _) (fun _ _ => nn188) rfl ?_
  refine ss_tk (fun G4 => ?_)
  refine r_iinc 78 [(2, aI (x2 + 1)), (0, aR 100), (1, aI x1)] 2 dX15_isIndex_75 rfl rfl rfl rfl ?_
  refine r_goto 24 dX15_isIndex_78 rfl ?_
  refine r_to [1, 2, 0] [(0, aR 100), (1, aI x1), (2, aI (x2 + 1))] rfl ?_
  exact SS.back (hX24 (x2 + 1, G4))
theorem s_Tw_isIndex_b64 (P W : Int) (x1 : Int) (X24 : Int × St → Option (Int × St)) (hX24 : ∀ s, So (MTw_isIndex P W) 24 [(0, aR 100), (1, aI x1), (2, aI (s.1))] [] s.2 (X24 s)) (x2 : Int) (s0 : Int) (s1 : Int) (G : St) : SS (MTw_isIndex P W) (lk X24 some) 64 [(0, aR 100), (1, aI x1), (2, aI x2)] [aI s0, aI s1, aR 188] G (Tw_isIndex_b64 P W x1 x2 s0 s1 G) := by
  refine r_iconst 65 1 dX15_isIndex_64 rfl rfl ?_
  refine SS.phi (fun VV_ => Tw_isIndex_b74 P W x1 x2 VV_ s1 G) ?_
  refine r_icmp_ne 72 68 dX15_isIndex_65 rfl rfl ?_ ?_
  · refine r_bipush 74 (-2) dX15_isIndex_72 rfl rfl ?_
    exact s_Tw_isIndex_b74 P W x1 X24 hX24 x2 (-2) s1 G
  · refine r_iconst 69 (-1) dX15_isIndex_68 rfl rfl ?_
    refine r_goto 74 dX15_isIndex_69 rfl ?_
    exact s_Tw_isIndex_b74 P W x1 X24 hX24 x2 (-1) s1 G
theorem s_Tw_isIndex_s24 (P W : Int) (x1 : Int) (X24 : Int × St → Option (Int × St)) (hX24 : ∀ s, So (MTw_isIndex P W) 24 [(0, aR 100), (1, aI x1), (2, aI (s.1))] [] s.2 (X24 s)) (x2 : Int) (G : St) : SS (MTw_isIndex P W) (lk X24 some) 24 [(0, aR 100), (1, aI x1), (2, aI x2)] [] G (Tw_isIndex_s24 P W x1 x2 G) := by
  refine r_iload_n 25 2 dX15_isIndex_24 rfl rfl rfl ?_
  refine r_aload_n 26 0 dX15_isIndex_25 rfl rfl rfl ?_
  refine r_get 29 (aI W) dX15_isIndex_26 fkX15_303 (fun _ => dsT_100 P W _) nn100 rfl rfl ?_
  refine r_icmp_ge 81 32 dX15_isIndex_29 rfl rfl ?_ ?_
  · refine SS.ex ?_
    refine r_aload_n 82 0 dX15_isIndex_81 rfl rfl rfl ?_
    refine r_aload_n 83 0 dX15_isIndex_82 rfl rfl rfl ?_
    refine r_get 86 (aI W) dX15_isIndex_83 fkX15_303 (fun _ => dsT_100 P W _) nn100 rfl rfl ?_
    refine r_callvI 89 (Mc := MTw_equal P W) (o := 100) (as := [aI W]) (st := []) dX15_isIndex_86 rfl (c_Tw_equal P W W G) lkX15_725 (cmTw_equal P W) rfl rfl rfl (fun _ => dsT_100 P W _) nn100 rfl (Nat.le_of_ble_eq_true rfl) (Nat.le_of_ble_eq_true rfl) (fun _ => rfl) rfl (fun z1 G2 => ?_)
    exact r_ireturn dX15_isIndex_89 rfl
  · refine r_aload_n 33 0 dX15_isIndex_32 rfl rfl rfl ?_
    refine r_get 36 (aR 187) dX15_isIndex_33 fkX15_161 (fun _ => dsT_100 P W _) nn100 rfl rfl ?_
    refine r_iload_n 37 2 dX15_isIndex_36 rfl rfl rfl ?_
    refine r_aload_n 38 0 dX15_isIndex_37 rfl rfl rfl ?_
    refine r_get 41 (aR 214) dX15_isIndex_38 fkX15_231 (fun _ => dsT_100 P W _) nn100 rfl rfl ?_
    refine r_iload_n 42 2 dX15_isIndex_41 rfl rfl rfl ?_
    refine r_iald 43 dX15_isIndex_42 (fun _ _ _ => dsT_214 P W _) (fun _ _ => nn214) rfl ?_
    refine r_iast 44 dX15_isIndex_43 (fun _ _ _ => dsT_187 P W _) (fun _ _ => nn187) rfl ?_
    refine ss_tk (fun G3 => ?_)
    refine r_aload_n 45 0 dX15_isIndex_44 rfl rfl rfl ?_
    refine r_get 48 (aR 188) dX15_isIndex_45 fkX15_164 (fun _ => dsT_100 P W _) nn100 rfl rfl ?_
    refine r_iload_n 49 2 dX15_isIndex_48 rfl rfl rfl ?_
    refine r_iload_n 50 2 dX15_isIndex_49 rfl rfl rfl ?_
    refine r_bipush 52 31 dX15_isIndex_50 rfl rfl ?_
    refine r_icmp_ge 63 55 dX15_isIndex_52 rfl rfl ?_ ?_
    · refine r_iconst 64 0 dX15_isIndex_63 rfl rfl ?_
      exact s_Tw_isIndex_b64 P W x1 X24 hX24 x2 0 x2 G3
    · refine r_iload_n 56 1 dX15_isIndex_55 rfl rfl rfl ?_
      refine r_iload_n 57 2 dX15_isIndex_56 rfl rfl rfl ?_
      refine r_ishr 58 dX15_isIndex_57 rfl ?_
      refine r_iconst 59 1 dX15_isIndex_58 rfl rfl ?_
      refine r_iand 60 dX15_isIndex_59 rfl ?_
      refine r_goto 64 dX15_isIndex_60 rfl ?_
      exact s_Tw_isIndex_b64 P W x1 X24 hX24 x2 (j_an (j_sr x1 x2) 1) x2 G3
theorem sl_Tw_isIndex_24 (P W : Int) (x1 : Int) (x2 : Int) (G : St) : SS (MTw_isIndex P W) some 24 [(0, aR 100), (1, aI x1), (2, aI x2)] [] G (Tw_isIndex_l24 P W x1 x2 G) := by
  exact SS.loop (σ := Int × St) (fun s => [(0, aR 100), (1, aI x1), (2, aI (s.1))]) (fun s => s.2) (fun s => Tw_isIndex_s24 P W x1 s.1 s.2) (fun X24 hX24 s => s_Tw_isIndex_s24 P W x1  X24 hX24 s.1 s.2) (x2, G)
theorem s_Tw_isIndex_b22 (P W : Int) (x1 : Int) (G : St) : SS (MTw_isIndex P W) some 22 [(0, aR 100), (1, aI x1)] [] G (Tw_isIndex_b22 P W x1 G) := by
  refine r_iconst 23 0 dX15_isIndex_22 rfl rfl ?_
  refine r_istore_n 24 [(2, aI 0), (0, aR 100), (1, aI x1)] dX15_isIndex_23 rfl rfl rfl rfl ?_
  refine r_to [1, 2, 0] [(0, aR 100), (1, aI x1), (2, aI 0)] rfl ?_
  exact sl_Tw_isIndex_24 P W x1 0 G
theorem s_Tw_isIndex (P W : Int) (x1 : Int) (G : St) : SS (MTw_isIndex P W) some 0 [(0, aR 100), (1, aI x1)] [] G (Tw_isIndex P W x1 G) := by
  refine r_aload_n 1 0 dX15_isIndex_0 rfl rfl rfl ?_
  refine r_get 4 (aI W) dX15_isIndex_1 fkX15_303 (fun _ => dsT_100 P W _) nn100 rfl rfl ?_
  refine r_bipush 6 31 dX15_isIndex_4 rfl rfl ?_
  refine r_icmp_ge 22 9 dX15_isIndex_6 rfl rfl ?_ ?_
  · exact s_Tw_isIndex_b22 P W x1 G
  · refine r_iload_n 10 1 dX15_isIndex_9 rfl rfl rfl ?_
    refine r_iconst 11 1 dX15_isIndex_10 rfl rfl ?_
    refine r_aload_n 12 0 dX15_isIndex_11 rfl rfl rfl ?_
    refine r_get 15 (aI W) dX15_isIndex_12 fkX15_303 (fun _ => dsT_100 P W _) nn100 rfl rfl ?_
    refine r_ishl 16 dX15_isIndex_15 rfl ?_
    refine r_icmp_lt 22 19 dX15_isIndex_16 rfl rfl ?_ ?_
    · exact s_Tw_isIndex_b22 P W x1 G
    · refine r_bipush 21 (-2) dX15_isIndex_19 rfl rfl ?_
      exact r_ireturn dX15_isIndex_21 rfl
theorem c_Tw_isIndex (P W : Int) (x1 : Int) (G : St) : MG (MTw_isIndex P W) [aR 100, aI x1] G (Tw_isIndex P W x1 G) := MG.of plX15 (Nat.le_of_ble_eq_true rfl) (s_Tw_isIndex P W x1 G)
theorem s_Tw_indexed_s182 (P W : Int) (x1 : Int) (x2 : Int) (X162 : Int × St → Option (Int × St)) (hX162 : ∀ s, So (MTw_indexed P W) 162 [(0, aR 100), (1, aI x1), (2, aI x2), (3, aI (s.1))] [] s.2 (X162 s)) (x3 : Int) (x4 : Int) (X182 : Int × St → Option (Int × St)) (hX182 : ∀ s, So (MTw_indexed P W) 182 [(0, aR 100), (1, aI x1), (2, aI x2), (3, aI x3), (4, aI x4), (5, aI (s.1))] [] s.2 (X182 s)) (x5 : Int) (G : St) : SS (MTw_indexed P W) (lk X182 (lk X162 some)) 182 [(0, aR 100), (1, aI x1), (2, aI x2), (3, aI x3), (4, aI x4), (5, aI x5)] [] G (Tw_indexed_s182 P W x1 x2 x3 x4 x5 G) := by
  refine r_iload 184 5 dX15_indexed_182 rfl rfl ?_
  refine r_iload_n 185 2 dX15_indexed_184 rfl rfl rfl ?_
  refine r_icmp_ge 226 188 dX15_indexed_185 rfl rfl ?_ ?_
  · refine SS.ex ?_
    refine r_iinc 229 [(3, aI (x3 + 1)), (0, aR 100), (1, aI x1), (2, aI x2), (4, aI x4), (5, aI x5)] 3 dX15_indexed_226 rfl rfl rfl rfl ?_
    refine r_goto 162 dX15_indexed_229 rfl ?_
    refine r_to [1, 2, 3, 0] [(0, aR 100), (1, aI x1), (2, aI x2), (3, aI (x3 + 1))] rfl ?_
    exact SS.back (hX162 (x3 + 1, G))
  · refine r_aload_n 189 0 dX15_indexed_188 rfl rfl rfl ?_
    refine r_get 192 (aR 189) dX15_indexed_189 fkX15_167 (fun _ => dsT_100 P W _) nn100 rfl rfl ?_
    refine r_iload 194 5 dX15_indexed_192 rfl rfl ?_
    refine r_aload_n 195 0 dX15_indexed_194 rfl rfl rfl ?_
    refine r_aload_n 196 0 dX15_indexed_195 rfl rfl rfl ?_
    refine r_get 199 (aR 189) dX15_indexed_196 fkX15_167 (fun _ => dsT_100 P W _) nn100 rfl rfl ?_
    refine r_iload 201 5 dX15_indexed_199 rfl rfl ?_
    refine r_iald 202 dX15_indexed_201 (fun _ _ _ => dsT_189 P W _) (fun _ _ => nn189) rfl ?_
    refine r_aload_n 203 0 dX15_indexed_202 rfl rfl rfl ?_
    refine r_iload 205 4 dX15_indexed_203 rfl rfl ?_
    refine r_aload_n 206 0 dX15_indexed_205 rfl rfl rfl ?_
    refine r_iload_n 207 1 dX15_indexed_206 rfl rfl rfl ?_
    refine r_iload_n 208 3 dX15_indexed_207 rfl rfl rfl ?_
    refine r_iload 210 5 dX15_indexed_208 rfl rfl ?_
    refine r_callvI 213 (Mc := MTw_elementBit P W) (o := 100) (as := [aI x1, aI x3, aI x5]) (st := [aI x4, aR 100, aI (G 189 x5), aR 100, aI x5, aR 189]) dX15_indexed_210 rfl (c_Tw_elementBit P W x1 x3 x5 G) lkX15_728 (cmTw_elementBit P W) rfl rfl rfl (fun _ => dsT_100 P W _) nn100 rfl (Nat.le_of_ble_eq_true rfl) (Nat.le_of_ble_eq_true rfl) (fun _ => rfl) rfl (fun z9 G10 => ?_)
    refine r_callvI 216 (Mc := MTw_and P W) (o := 100) (as := [aI x4, aI z9]) (st := [aI (G 189 x5), aR 100, aI x5, aR 189]) dX15_indexed_213 rfl (c_Tw_and P W x4 z9 G10) lkX15_646 (cmTw_and P W) rfl rfl rfl (fun _ => dsT_100 P W _) nn100 rfl (Nat.le_of_ble_eq_true rfl) (Nat.le_of_ble_eq_true rfl) (fun _ => rfl) rfl (fun z11 G12 => ?_)
    refine r_callvI 219 (Mc := MTw_xor P W) (o := 100) (as := [aI (G 189 x5), aI z11]) (st := [aI x5, aR 189]) dX15_indexed_216 rfl (c_Tw_xor P W (G 189 x5) z11 G12) lkX15_642 (cmTw_xor P W) rfl rfl rfl (fun _ => dsT_100 P W _) nn100 rfl (Nat.le_of_ble_eq_true rfl) (Nat.le_of_ble_eq_true rfl) (fun _ => rfl) rfl (fun z13 G14 => ?_)
    refine r_iast 220 dX15_indexed_219 (fun _ _ _ => dsT_189 P W _) (fun _ _ => nn189) rfl ?_
    refine ss_tk (fun G15 => ?_)
    refine r_iinc 223 [(5, aI (x5 + 1)), (0, aR 100), (1, aI x1), (2, aI x2), (3, aI x3), (4, aI x4)] 5 dX15_indexed_220 rfl rfl rfl rfl ?_
    refine r_goto 182 dX15_indexed_223 rfl ?_
    refine r_to [1, 2, 3, 4, 5, 0] [(0, aR 100), (1, aI x1), (2, aI x2), (3, aI x3), (4, aI x4), (5, aI (x5 + 1))] rfl ?_
    exact SS.back (hX182 (x5 + 1, G15))
theorem sl_Tw_indexed_182 (P W : Int) (x1 : Int) (x2 : Int) (X162 : Int × St → Option (Int × St)) (hX162 : ∀ s, So (MTw_indexed P W) 162 [(0, aR 100), (1, aI x1), (2, aI x2), (3, aI (s.1))] [] s.2 (X162 s)) (x3 : Int) (x4 : Int) (x5 : Int) (G : St) : SS (MTw_indexed P W) (lk X162 some) 182 [(0, aR 100), (1, aI x1), (2, aI x2), (3, aI x3), (4, aI x4), (5, aI x5)] [] G (Tw_indexed_l182 P W x1 x2 x3 x4 x5 G) := by
  exact SS.loop (σ := Int × St) (fun s => [(0, aR 100), (1, aI x1), (2, aI x2), (3, aI x3), (4, aI x4), (5, aI (s.1))]) (fun s => s.2) (fun s => Tw_indexed_s182 P W x1 x2 x3 x4 s.1 s.2) (fun X182 hX182 s => s_Tw_indexed_s182 P W x1 x2 X162 hX162 x3 x4  X182 hX182 s.1 s.2) (x5, G)
theorem s_Tw_indexed_s162 (P W : Int) (x1 : Int) (x2 : Int) (X162 : Int × St → Option (Int × St)) (hX162 : ∀ s, So (MTw_indexed P W) 162 [(0, aR 100), (1, aI x1), (2, aI x2), (3, aI (s.1))] [] s.2 (X162 s)) (x3 : Int) (G : St) : SS (MTw_indexed P W) (lk X162 some) 162 [(0, aR 100), (1, aI x1), (2, aI x2), (3, aI x3)] [] G (Tw_indexed_s162 P W x1 x2 x3 G) := by
  refine r_iload_n 163 3 dX15_indexed_162 rfl rfl rfl ?_
  refine r_aload_n 164 0 dX15_indexed_163 rfl rfl rfl ?_
  refine r_get 167 (aR 153) dX15_indexed_164 fkX15_102 (fun _ => dsT_100 P W _) nn100 rfl rfl ?_
  refine r_iload_n 168 1 dX15_indexed_167 rfl rfl rfl ?_
  refine r_iald 169 dX15_indexed_168 (fun _ _ _ => dsT_153 P W _) (fun _ _ => nn153) rfl ?_
  refine r_icmp_ge 232 172 dX15_indexed_169 rfl rfl ?_ ?_
  · refine SS.ex ?_
    refine r_aload_n 233 0 dX15_indexed_232 rfl rfl rfl ?_
    refine r_iload_n 234 2 dX15_indexed_233 rfl rfl rfl ?_
    refine r_callvV 237 (Mc := MTw_pushZ P W) (o := 100) (as := [aI x2]) (st := []) dX15_indexed_234 rfl (c_Tw_pushZ P W x2 G) lkX15_697 (cmTw_pushZ P W) rfl rfl rfl (fun _ => dsT_100 P W _) nn100 rfl (Nat.le_of_ble_eq_true rfl) (Nat.le_of_ble_eq_true rfl) (fun _ => rfl) rfl (fun z5 G6 => ?_)
    exact r_return dX15_indexed_237 rfl
  · refine r_aload_n 173 0 dX15_indexed_172 rfl rfl rfl ?_
    refine r_iload_n 174 3 dX15_indexed_173 rfl rfl rfl ?_
    refine r_callvI 177 (Mc := MTw_isIndex P W) (o := 100) (as := [aI x3]) (st := []) dX15_indexed_174 rfl (c_Tw_isIndex P W x3 G) lkX15_731 (cmTw_isIndex P W) rfl rfl rfl (fun _ => dsT_100 P W _) nn100 rfl (Nat.le_of_ble_eq_true rfl) (Nat.le_of_ble_eq_true rfl) (fun _ => rfl) rfl (fun z7 G8 => ?_)
    refine r_istore 179 [(4, aI z7), (0, aR 100), (1, aI x1), (2, aI x2), (3, aI x3)] dX15_indexed_177 rfl rfl rfl ?_
    refine r_iconst 180 0 dX15_indexed_179 rfl rfl ?_
    refine r_istore 182 [(5, aI 0), (4, aI z7), (0, aR 100), (1, aI x1), (2, aI x2), (3, aI x3)] dX15_indexed_180 rfl rfl rfl ?_
    refine r_to [2, 3, 4, 5, 1, 0] [(0, aR 100), (1, aI x1), (2, aI x2), (3, aI x3), (4, aI z7), (5, aI 0)] rfl ?_
    exact sl_Tw_indexed_182 P W x1 x2 X162 hX162 x3 z7 0 G8
theorem sl_Tw_indexed_162 (P W : Int) (x1 : Int) (x2 : Int) (x3 : Int) (G : St) : SS (MTw_indexed P W) some 162 [(0, aR 100), (1, aI x1), (2, aI x2), (3, aI x3)] [] G (Tw_indexed_l162 P W x1 x2 x3 G) := by
  exact SS.loop (σ := Int × St) (fun s => [(0, aR 100), (1, aI x1), (2, aI x2), (3, aI (s.1))]) (fun s => s.2) (fun s => Tw_indexed_s162 P W x1 x2 s.1 s.2) (fun X162 hX162 s => s_Tw_indexed_s162 P W x1 x2  X162 hX162 s.1 s.2) (x3, G)
theorem s_Tw_indexed_s141 (P W : Int) (x1 : Int) (x2 : Int) (X141 : Int × St → Option (Int × St)) (hX141 : ∀ s, So (MTw_indexed P W) 141 [(0, aR 100), (1, aI x1), (2, aI x2), (3, aI (s.1))] [] s.2 (X141 s)) (x3 : Int) (G : St) : SS (MTw_indexed P W) (lk X141 some) 141 [(0, aR 100), (1, aI x1), (2, aI x2), (3, aI x3)] [] G (Tw_indexed_s141 P W x1 x2 x3 G) := by
  refine r_iload_n 142 3 dX15_indexed_141 rfl rfl rfl ?_
  refine r_iload_n 143 2 dX15_indexed_142 rfl rfl rfl ?_
  refine r_icmp_ge 160 146 dX15_indexed_143 rfl rfl ?_ ?_
  · refine SS.ex ?_
    refine r_iconst 161 0 dX15_indexed_160 rfl rfl ?_
    refine r_istore_n 162 [(3, aI 0), (0, aR 100), (1, aI x1), (2, aI x2)] dX15_indexed_161 rfl rfl rfl rfl ?_
    refine r_to [1, 2, 3, 0] [(0, aR 100), (1, aI x1), (2, aI x2), (3, aI 0)] rfl ?_
    exact sl_Tw_indexed_162 P W x1 x2 0 G
  · refine r_aload_n 147 0 dX15_indexed_146 rfl rfl rfl ?_
    refine r_get 150 (aR 189) dX15_indexed_147 fkX15_167 (fun _ => dsT_100 P W _) nn100 rfl rfl ?_
    refine r_iload_n 151 3 dX15_indexed_150 rfl rfl rfl ?_
    refine r_bipush 153 (-2) dX15_indexed_151 rfl rfl ?_
    refine r_iast 154 dX15_indexed_153 (fun _ _ _ => dsT_189 P W _) (fun _ _ => nn189) rfl ?_
    refine ss_tk (fun G16 => ?_)
    refine r_iinc 157 [(3, aI (x3 + 1)), (0, aR 100), (1, aI x1), (2, aI x2)] 3 dX15_indexed_154 rfl rfl rfl rfl ?_
    refine r_goto 141 dX15_indexed_157 rfl ?_
    refine r_to [1, 2, 3, 0] [(0, aR 100), (1, aI x1), (2, aI x2), (3, aI (x3 + 1))] rfl ?_
    exact SS.back (hX141 (x3 + 1, G16))
theorem sl_Tw_indexed_141 (P W : Int) (x1 : Int) (x2 : Int) (x3 : Int) (G : St) : SS (MTw_indexed P W) some 141 [(0, aR 100), (1, aI x1), (2, aI x2), (3, aI x3)] [] G (Tw_indexed_l141 P W x1 x2 x3 G) := by
  exact SS.loop (σ := Int × St) (fun s => [(0, aR 100), (1, aI x1), (2, aI x2), (3, aI (s.1))]) (fun s => s.2) (fun s => Tw_indexed_s141 P W x1 x2 s.1 s.2) (fun X141 hX141 s => s_Tw_indexed_s141 P W x1 x2  X141 hX141 s.1 s.2) (x3, G)
theorem s_Tw_indexed_s113 (P W : Int) (x1 : Int) (x2 : Int) (X113 : Int × St → Option (Int × St)) (hX113 : ∀ s, So (MTw_indexed P W) 113 [(0, aR 100), (1, aI x1), (2, aI x2), (3, aI (s.1))] [] s.2 (X113 s)) (x3 : Int) (G : St) : SS (MTw_indexed P W) (lk X113 some) 113 [(0, aR 100), (1, aI x1), (2, aI x2), (3, aI x3)] [] G (Tw_indexed_s113 P W x1 x2 x3 G) := by
  refine r_iload_n 114 3 dX15_indexed_113 rfl rfl rfl ?_
  refine r_aload_n 115 0 dX15_indexed_114 rfl rfl rfl ?_
  refine r_get 118 (aI W) dX15_indexed_115 fkX15_303 (fun _ => dsT_100 P W _) nn100 rfl rfl ?_
  refine r_icmp_ge 139 121 dX15_indexed_118 rfl rfl ?_ ?_
  · refine SS.ex ?_
    refine r_iconst 140 0 dX15_indexed_139 rfl rfl ?_
    refine r_istore_n 141 [(3, aI 0), (0, aR 100), (1, aI x1), (2, aI x2)] dX15_indexed_140 rfl rfl rfl rfl ?_
    refine r_to [1, 2, 3, 0] [(0, aR 100), (1, aI x1), (2, aI x2), (3, aI 0)] rfl ?_
    exact sl_Tw_indexed_141 P W x1 x2 0 G
  · refine r_aload_n 122 0 dX15_indexed_121 rfl rfl rfl ?_
    refine r_get 125 (aR 214) dX15_indexed_122 fkX15_231 (fun _ => dsT_100 P W _) nn100 rfl rfl ?_
    refine r_iload_n 126 3 dX15_indexed_125 rfl rfl rfl ?_
    refine r_aload_n 127 0 dX15_indexed_126 rfl rfl rfl ?_
    refine r_get 130 (aR 187) dX15_indexed_127 fkX15_161 (fun _ => dsT_100 P W _) nn100 rfl rfl ?_
    refine r_iload_n 131 3 dX15_indexed_130 rfl rfl rfl ?_
    refine r_iald 132 dX15_indexed_131 (fun _ _ _ => dsT_187 P W _) (fun _ _ => nn187) rfl ?_
    refine r_iast 133 dX15_indexed_132 (fun _ _ _ => dsT_214 P W _) (fun _ _ => nn214) rfl ?_
    refine ss_tk (fun G17 => ?_)
    refine r_iinc 136 [(3, aI (x3 + 1)), (0, aR 100), (1, aI x1), (2, aI x2)] 3 dX15_indexed_133 rfl rfl rfl rfl ?_
    refine r_goto 113 dX15_indexed_136 rfl ?_
    refine r_to [1, 2, 3, 0] [(0, aR 100), (1, aI x1), (2, aI x2), (3, aI (x3 + 1))] rfl ?_
    exact SS.back (hX113 (x3 + 1, G17))
theorem sl_Tw_indexed_113 (P W : Int) (x1 : Int) (x2 : Int) (x3 : Int) (G : St) : SS (MTw_indexed P W) some 113 [(0, aR 100), (1, aI x1), (2, aI x2), (3, aI x3)] [] G (Tw_indexed_l113 P W x1 x2 x3 G) := by
  exact SS.loop (σ := Int × St) (fun s => [(0, aR 100), (1, aI x1), (2, aI x2), (3, aI (s.1))]) (fun s => s.2) (fun s => Tw_indexed_s113 P W x1 x2 s.1 s.2) (fun X113 hX113 s => s_Tw_indexed_s113 P W x1 x2  X113 hX113 s.1 s.2) (x3, G)
theorem s_Tw_indexed_s69 (P W : Int) (x1 : Int) (x2 : Int) (x3 : Int) (X69 : Int × St → Option (Int × St)) (hX69 : ∀ s, So (MTw_indexed P W) 69 [(0, aR 100), (1, aI x1), (2, aI x2), (3, aL x3), (5, aI (s.1))] [] s.2 (X69 s)) (x5 : Int) (G : St) : SS (MTw_indexed P W) (lk X69 some) 69 [(0, aR 100), (1, aI x1), (2, aI x2), (3, aL x3), (5, aI x5)] [] G (Tw_indexed_s69 P W x1 x2 x3 x5 G) := by
  refine r_iload 71 4 dX15_indexed_69 rfl rfl ?_
  refine r_iload_n 72 2 dX15_indexed_71 rfl rfl rfl ?_
  refine r_icmp_ge 97 75 dX15_indexed_72 rfl rfl ?_ ?_
  · refine SS.ex ?_
    refine r_aload_n 98 0 dX15_indexed_97 rfl rfl rfl ?_
    refine r_iload_n 99 2 dX15_indexed_98 rfl rfl rfl ?_
    refine r_callvV 102 (Mc := MTw_pushZ P W) (o := 100) (as := [aI x2]) (st := []) dX15_indexed_99 rfl (c_Tw_pushZ P W x2 G) lkX15_697 (cmTw_pushZ P W) rfl rfl rfl (fun _ => dsT_100 P W _) nn100 rfl (Nat.le_of_ble_eq_true rfl) (Nat.le_of_ble_eq_true rfl) (fun _ => rfl) rfl (fun z21 G22 => ?_)
    exact r_return dX15_indexed_102 rfl
  · refine r_aload_n 76 0 dX15_indexed_75 rfl rfl rfl ?_
    refine r_get 79 (aR 189) dX15_indexed_76 fkX15_167 (fun _ => dsT_100 P W _) nn100 rfl rfl ?_
    refine r_iload 81 4 dX15_indexed_79 rfl rfl ?_
    refine r_aload_n 82 0 dX15_indexed_81 rfl rfl rfl ?_
    refine r_iload_n 83 1 dX15_indexed_82 rfl rfl rfl ?_
    refine r_lload_n 84 3 dX15_indexed_83 rfl rfl rfl ?_
    refine r_l2iw 85 dX15_indexed_84 rfl ?_
    refine r_iload 87 4 dX15_indexed_85 rfl rfl ?_
    refine r_callvI 90 (Mc := MTw_elementBit P W) (o := 100) (as := [aI x1, aI (w32 x3), aI x5]) (st := [aI x5, aR 189]) dX15_indexed_87 rfl (c_Tw_elementBit P W x1 (w32 x3) x5 G) lkX15_728 (cmTw_elementBit P W) rfl rfl rfl (fun _ => dsT_100 P W _) nn100 rfl (Nat.le_of_ble_eq_true rfl) (Nat.le_of_ble_eq_true rfl) (fun _ => rfl) rfl (fun z23 G24 => ?_)
    refine r_iast 91 dX15_indexed_90 (fun _ _ _ => dsT_189 P W _) (fun _ _ => nn189) rfl ?_
    refine ss_tk (fun G25 => ?_)
    refine r_iinc 94 [(5, aI (x5 + 1)), (0, aR 100), (1, aI x1), (2, aI x2), (3, aL x3)] 4 dX15_indexed_91 rfl rfl rfl rfl ?_
    refine r_goto 69 dX15_indexed_94 rfl ?_
    refine r_to [1, 2, 3, 4, 0] [(0, aR 100), (1, aI x1), (2, aI x2), (3, aL x3), (5, aI (x5 + 1))] rfl ?_
    exact SS.back (hX69 (x5 + 1, G25))
theorem sl_Tw_indexed_69 (P W : Int) (x1 : Int) (x2 : Int) (x3 : Int) (x5 : Int) (G : St) : SS (MTw_indexed P W) some 69 [(0, aR 100), (1, aI x1), (2, aI x2), (3, aL x3), (5, aI x5)] [] G (Tw_indexed_l69 P W x1 x2 x3 x5 G) := by
  exact SS.loop (σ := Int × St) (fun s => [(0, aR 100), (1, aI x1), (2, aI x2), (3, aL x3), (5, aI (s.1))]) (fun s => s.2) (fun s => Tw_indexed_s69 P W x1 x2 x3 s.1 s.2) (fun X69 hX69 s => s_Tw_indexed_s69 P W x1 x2 x3  X69 hX69 s.1 s.2) (x5, G)
theorem s_Tw_indexed (P W : Int) (x1 : Int) (G : St) : SS (MTw_indexed P W) some 0 [(0, aR 100), (1, aI x1)] [] G (Tw_indexed P W x1 G) := by
  refine r_aload_n 1 0 dX15_indexed_0 rfl rfl rfl ?_
  refine r_aload_n 2 0 dX15_indexed_1 rfl rfl rfl ?_
  refine r_get 5 (aR 154) dX15_indexed_2 fkX15_105 (fun _ => dsT_100 P W _) nn100 rfl rfl ?_
  refine r_iload_n 6 1 dX15_indexed_5 rfl rfl rfl ?_
  refine r_iald 7 dX15_indexed_6 (fun _ _ _ => dsT_154 P W _) (fun _ _ => nn154) rfl ?_
  refine r_callvI 10 (Mc := MTw_widthOf P W) (o := 100) (as := [aI (G 154 x1)]) (st := []) dX15_indexed_7 rfl (c_Tw_widthOf P W (G 154 x1) G) lkX15_666 (cmTw_widthOf P W) rfl rfl rfl (fun _ => dsT_100 P W _) nn100 rfl (Nat.le_of_ble_eq_true rfl) (Nat.le_of_ble_eq_true rfl) (fun _ => rfl) rfl (fun z1 G2 => ?_)
  refine r_istore_n 11 [(2, aI z1), (0, aR 100), (1, aI x1)] dX15_indexed_10 rfl rfl rfl rfl ?_
  refine r_aload_n 12 1 dX15_indexed_11 rfl rfl rfl ?_
  refine r_get 15 (aR 156) dX15_indexed_12 fkX15_111 (fun _ => dsT_100 P W _) nn100 rfl rfl ?_
  refine r_iload_n 16 2 dX15_indexed_15 rfl rfl rfl ?_
  refine r_zald 17 dX15_indexed_16 (fun _ _ _ => dsT_156 P W _) (fun _ _ => nn156) rfl ?_
  refine r_if_eq 103 20 dX15_indexed_17 rfl rfl ?_ ?_
  · refine r_aload_n 104 1 dX15_indexed_103 rfl rfl rfl ?_
    refine r_aload_n 105 1 dX15_indexed_104 rfl rfl rfl ?_
    refine r_get 108 (aI W) dX15_indexed_105 fkX15_303 (fun _ => dsT_100 P W _) nn100 rfl rfl ?_
    refine r_callvV 111 (Mc := MTw_popX P W) (o := 100) (as := [aI W]) (st := []) dX15_indexed_108 rfl (c_Tw_popX P W W G2) lkX15_709 (cmTw_popX P W) rfl rfl rfl (fun _ => dsT_100 P W _) nn100 rfl (Nat.le_of_ble_eq_true rfl) (Nat.le_of_ble_eq_true rfl) (fun _ => rfl) rfl (fun z3 G4 => ?_)
    refine r_iconst 112 0 dX15_indexed_111 rfl rfl ?_
    refine r_istore_n 113 [(3, aI 0), (2, aI z1), (0, aR 100), (1, aI x1)] dX15_indexed_112 rfl rfl rfl rfl ?_
    refine r_to [2, 3, 1, 0] [(0, aR 100), (1, aI x1), (2, aI z1), (3, aI 0)] rfl ?_
    exact sl_Tw_indexed_113 P W x1 z1 0 G4
  · refine r_aload_n 21 1 dX15_indexed_20 rfl rfl rfl ?_
    refine r_aload_n 22 1 dX15_indexed_21 rfl rfl rfl ?_
    refine r_get 25 (aI (G2 100 85)) dX15_indexed_22 fkX15_649 (fun _ => dsT_100 P W _) nn100 rfl rfl ?_
    refine r_iconst 26 1 dX15_indexed_25 rfl rfl ?_
    refine r_isub 27 dX15_indexed_26 rfl ?_
    refine r_callvL 30 (Mc := MTw_worthOf P W) (o := 100) (as := [aI ((G2 100 85) - 1)]) (st := []) dX15_indexed_27 rfl (c_Tw_worthOf P W ((G2 100 85) - 1) G2) lkX15_712 (cmTw_worthOf P W) rfl rfl rfl (fun _ => dsT_100 P W _) nn100 rfl (Nat.le_of_ble_eq_true rfl) (Nat.le_of_ble_eq_true rfl) (fun _ => rfl) rfl (fun z18 G19 => ?_)
    refine r_lstore_n 31 [(3, aL z18), (2, aI z1), (0, aR 100), (1, aI x1)] dX15_indexed_30 rfl rfl rfl rfl ?_
    refine r_lload_n 32 0 dX15_indexed_31 rfl rfl rfl ?_
    refine r_aload_n 33 2 dX15_indexed_32 rfl rfl rfl ?_
    refine r_get 36 (aR 153) dX15_indexed_33 fkX15_102 (fun _ => dsT_100 P W _) nn100 rfl rfl ?_
    refine r_iload_n 37 3 dX15_indexed_36 rfl rfl rfl ?_
    refine r_iald 38 dX15_indexed_37 (fun _ _ _ => dsT_153 P W _) (fun _ _ => nn153) rfl ?_
    refine r_i2l 39 dX15_indexed_38 rfl ?_
    refine r_lif_lt 40 56 43 dX15_indexed_39 rfl dX15_indexed_40 rfl rfl ?_ ?_
    · refine r_aload_n 57 2 dX15_indexed_56 rfl rfl rfl ?_
      refine r_dup 58 dX15_indexed_57 rfl rfl ?_
      refine r_get 61 (aI (G19 100 85)) dX15_indexed_58 fkX15_649 (fun _ => dsT_100 P W _) nn100 rfl rfl ?_
      refine r_iconst 62 1 dX15_indexed_61 rfl rfl ?_
      refine r_isub 63 dX15_indexed_62 rfl ?_
      refine r_putI 66 dX15_indexed_63 fkX15_649 (fun _ => dsT_100 P W _) nn100 rfl rfl ?_
      refine ss_tk (fun G20 => ?_)
      refine r_iconst 67 0 dX15_indexed_66 rfl rfl ?_
      refine r_istore 69 [(5, aI 0), (3, aL z18), (2, aI z1), (0, aR 100), (1, aI x1)] dX15_indexed_67 rfl rfl rfl ?_
      refine r_to [3, 4, 2, 1, 0] [(0, aR 100), (1, aI x1), (2, aI z1), (3, aL z18), (5, aI 0)] rfl ?_
      exact sl_Tw_indexed_69 P W x1 z1 z18 0 G20
    · refine r_aload_n 44 2 dX15_indexed_43 rfl rfl rfl ?_
      refine r_bipush 46 7 dX15_indexed_44 rfl rfl ?_
      refine r_aload_n 47 2 dX15_indexed_46 rfl rfl rfl ?_
      refine r_get 50 (aR 155) dX15_indexed_47 fkX15_108 (fun _ => dsT_100 P W _) nn100 rfl rfl ?_
      refine r_iload_n 51 3 dX15_indexed_50 rfl rfl rfl ?_
      refine r_iald 52 dX15_indexed_51 (fun _ _ _ => dsT_155 P W _) (fun _ _ => nn155) rfl ?_
      refine r_callvV 55 (Mc := MTw_fail P W) (o := 100) (as := [aI 7, aI (G19 155 x1)]) (st := []) dX15_indexed_52 rfl (c_Tw_fail P W 7 (G19 155 x1) G19) lkX15_390 (cmTw_fail P W) rfl rfl rfl (fun _ => dsT_100 P W _) nn100 rfl (Nat.le_of_ble_eq_true rfl) (Nat.le_of_ble_eq_true rfl) (fun _ => rfl) rfl (fun z26 G27 => ?_)
      exact r_return dX15_indexed_55 rfl
theorem c_Tw_indexed (P W : Int) (x1 : Int) (G : St) : MG (MTw_indexed P W) [aR 100, aI x1] G (Tw_indexed P W x1 G) := MG.of plX15 (Nat.le_of_ble_eq_true rfl) (s_Tw_indexed P W x1 G)
theorem s_Tw_named_b154 (P W : Int) (x1 : Int) (x2 : Int) (X13 : Int × St → Option (Int × St)) (hX13 : ∀ s, So (MTw_named P W) 13 [(0, aR 100), (1, aI x1), (2, aI x2), (3, aI (s.1))] [] s.2 (X13 s)) (x3 : Int) (s0 : Int) (s1 : Int) (G : St) : SS (MTw_named P W) (lk X13 some) 154 [(0, aR 100), (1, aI x1), (2, aI x2), (3, aI x3)] [aI s0, aI s1, aR 189] G (Tw_named_b154 P W x1 x2 x3 s0 s1 G) := by
  refine r_iast 155 dX15_named_154 (fun _ _ _ => dsT_189 P W _) (fun _ _ => nn189) rfl ?_
  refine ss_tk (fun G5 => ?_)
  refine r_iinc 158 [(3, aI (x3 + 1)), (0, aR 100), (1, aI x1), (2, aI x2)] 3 dX15_named_155 rfl rfl rfl rfl ?_
  refine r_goto 13 dX15_named_158 rfl ?_
  refine r_to [1, 2, 3, 0] [(0, aR 100), (1, aI x1), (2, aI x2), (3, aI (x3 + 1))] rfl ?_
  exact SS.back (hX13 (x3 + 1, G5))
theorem s_Tw_named_b142 (P W : Int) (x1 : Int) (x2 : Int) (X13 : Int × St → Option (Int × St)) (hX13 : ∀ s, So (MTw_named P W) 13 [(0, aR 100), (1, aI x1), (2, aI x2), (3, aI (s.1))] [] s.2 (X13 s)) (x3 : Int) (s0 : Int) (s2 : Int) (s4 : Int) (G : St) : SS (MTw_named P W) (lk X13 some) 142 [(0, aR 100), (1, aI x1), (2, aI x2), (3, aI x3)] [aI s0, aR 212, aI s2, aR 185, aI s4, aR 189] G (Tw_named_b142 P W x1 x2 x3 s0 s2 s4 G) := by
  refine r_iald 143 dX15_named_142 (fun _ _ _ => dsT_212 P W _) (fun _ _ => nn212) rfl ?_
  refine r_aload_n 144 0 dX15_named_143 rfl rfl rfl ?_
  refine r_get 147 (aR 152) dX15_named_144 fkX15_99 (fun _ => dsT_100 P W _) nn100 rfl rfl ?_
  refine r_iload_n 148 1 dX15_named_147 rfl rfl rfl ?_
  refine r_iald 149 dX15_named_148 (fun _ _ _ => dsT_152 P W _) (fun _ _ => nn152) rfl ?_
  refine r_iadd 150 dX15_named_149 rfl ?_
  refine r_imul 151 dX15_named_150 rfl ?_
  refine r_iload_n 152 3 dX15_named_151 rfl rfl rfl ?_
  refine r_iadd 153 dX15_named_152 rfl ?_
  refine r_iald 154 dX15_named_153 (fun _ _ _ => dsT_185 P W _) (fun _ _ => nn185) rfl ?_
  exact s_Tw_named_b154 P W x1 x2 X13 hX13 x3 (G 185 ((s2 * ((G 212 s0) + (G 152 x1))) + x3)) s4 G
theorem s_Tw_named_s13 (P W : Int) (x1 : Int) (x2 : Int) (X13 : Int × St → Option (Int × St)) (hX13 : ∀ s, So (MTw_named P W) 13 [(0, aR 100), (1, aI x1), (2, aI x2), (3, aI (s.1))] [] s.2 (X13 s)) (x3 : Int) (G : St) : SS (MTw_named P W) (lk X13 some) 13 [(0, aR 100), (1, aI x1), (2, aI x2), (3, aI x3)] [] G (Tw_named_s13 P W x1 x2 x3 G) := by
  refine r_iload_n 14 3 dX15_named_13 rfl rfl rfl ?_
  refine r_iload_n 15 2 dX15_named_14 rfl rfl rfl ?_
  refine r_icmp_ge 161 18 dX15_named_15 rfl rfl ?_ ?_
  · refine SS.ex ?_
    refine r_aload_n 162 0 dX15_named_161 rfl rfl rfl ?_
    refine r_iload_n 163 2 dX15_named_162 rfl rfl rfl ?_
    refine r_callvV 166 (Mc := MTw_pushZ P W) (o := 100) (as := [aI x2]) (st := []) dX15_named_163 rfl (c_Tw_pushZ P W x2 G) lkX15_697 (cmTw_pushZ P W) rfl rfl rfl (fun _ => dsT_100 P W _) nn100 rfl (Nat.le_of_ble_eq_true rfl) (Nat.le_of_ble_eq_true rfl) (fun _ => rfl) rfl (fun z3 G4 => ?_)
    exact r_return dX15_named_166 rfl
  · refine r_aload_n 19 0 dX15_named_18 rfl rfl rfl ?_
    refine r_get 22 (aR 151) dX15_named_19 fkX15_96 (fun _ => dsT_100 P W _) nn100 rfl rfl ?_
    refine r_iload_n 23 1 dX15_named_22 rfl rfl rfl ?_
    refine r_iald 24 dX15_named_23 (fun _ _ _ => dsT_151 P W _) (fun _ _ => nn151) rfl ?_
    refine r_istore 26 [(4, aI (G 151 x1)), (0, aR 100), (1, aI x1), (2, aI x2), (3, aI x3)] dX15_named_24 rfl rfl rfl ?_
    refine r_aload_n 27 1 dX15_named_26 rfl rfl rfl ?_
    refine r_get 30 (aR 189) dX15_named_27 fkX15_167 (fun _ => dsT_100 P W _) nn100 rfl rfl ?_
    refine r_iload_n 31 4 dX15_named_30 rfl rfl rfl ?_
    refine r_iload 33 0 dX15_named_31 rfl rfl ?_
    refine r_iconst 34 1 dX15_named_33 rfl rfl ?_
    refine r_icmp_ne 55 37 dX15_named_34 rfl rfl ?_ ?_
    · refine r_iload 57 0 dX15_named_55 rfl rfl ?_
      refine r_iconst 58 2 dX15_named_57 rfl rfl ?_
      refine r_icmp_ne 80 61 dX15_named_58 rfl rfl ?_ ?_
      · refine r_iload 82 0 dX15_named_80 rfl rfl ?_
        refine r_iconst 83 3 dX15_named_82 rfl rfl ?_
        refine r_icmp_ne 115 86 dX15_named_83 rfl rfl ?_ ?_
        · refine r_aload_n 116 1 dX15_named_115 rfl rfl rfl ?_
          refine r_get 119 (aR 185) dX15_named_116 fkX15_158 (fun _ => dsT_100 P W _) nn100 rfl rfl ?_
          refine r_bipush 121 32 dX15_named_119 rfl rfl ?_
          refine r_aload_n 122 1 dX15_named_121 rfl rfl rfl ?_
          refine r_get 125 (aR 212) dX15_named_122 fkX15_225 (fun _ => dsT_100 P W _) nn100 rfl rfl ?_
          refine r_aload_n 126 1 dX15_named_125 rfl rfl rfl ?_
          refine r_get 129 (aI (G 100 110)) dX15_named_126 fkX15_681 (fun _ => dsT_100 P W _) nn100 rfl rfl ?_
          refine r_if_le 141 132 dX15_named_129 rfl rfl ?_ ?_
          · refine r_iconst 142 0 dX15_named_141 rfl rfl ?_
            refine r_to [1, 2, 3, 4] [(0, aR 100), (1, aI x1), (2, aI x2), (3, aI x3)] rfl ?_
            exact s_Tw_named_b142 P W x1 x2 X13 hX13 x3 0 32 x3 G
          · refine r_aload_n 133 1 dX15_named_132 rfl rfl rfl ?_
            refine r_get 136 (aI (G 100 110)) dX15_named_133 fkX15_681 (fun _ => dsT_100 P W _) nn100 rfl rfl ?_
            refine r_iconst 137 1 dX15_named_136 rfl rfl ?_
            refine r_isub 138 dX15_named_137 rfl ?_
            refine r_goto 142 dX15_named_138 rfl ?_
            refine r_to [1, 2, 3, 4] [(0, aR 100), (1, aI x1), (2, aI x2), (3, aI x3)] rfl ?_
            exact s_Tw_named_b142 P W x1 x2 X13 hX13 x3 ((G 100 110) - 1) 32 x3 G
        · refine r_aload_n 87 1 dX15_named_86 rfl rfl rfl ?_
          refine r_get 90 (aR 208) dX15_named_87 fkX15_216 (fun _ => dsT_100 P W _) nn100 rfl rfl ?_
          refine r_aload_n 91 1 dX15_named_90 rfl rfl rfl ?_
          refine r_get 94 (aR 152) dX15_named_91 fkX15_99 (fun _ => dsT_100 P W _) nn100 rfl rfl ?_
          refine r_iload_n 95 2 dX15_named_94 rfl rfl rfl ?_
          refine r_iald 96 dX15_named_95 (fun _ _ _ => dsT_152 P W _) (fun _ _ => nn152) rfl ?_
          refine r_lald 97 dX15_named_96 (fun _ _ _ => dsT_208 P W _) (fun _ _ => nn208) rfl ?_
          refine r_iload_n 98 4 dX15_named_97 rfl rfl rfl ?_
          refine r_lshr 99 dX15_named_98 rfl ?_
          refine r_lconst 100 1 dX15_named_99 rfl rfl rfl ?_
          refine r_land 101 dX15_named_100 rfl ?_
          refine r_lconst 102 1 dX15_named_101 rfl rfl rfl ?_
          refine SS.phi (fun VV_ => Tw_named_b154 P W x1 x2 x3 VV_ x3 G) ?_
          refine r_lif_ne 103 110 106 dX15_named_102 rfl dX15_named_103 rfl rfl ?_ ?_
          · refine r_bipush 112 (-2) dX15_named_110 rfl rfl ?_
            refine r_goto 154 dX15_named_112 rfl ?_
            refine r_to [1, 2, 3, 4] [(0, aR 100), (1, aI x1), (2, aI x2), (3, aI x3)] rfl ?_
            exact s_Tw_named_b154 P W x1 x2 X13 hX13 x3 (-2) x3 G
          · refine r_iconst 107 (-1) dX15_named_106 rfl rfl ?_
            refine r_goto 154 dX15_named_107 rfl ?_
            refine r_to [1, 2, 3, 4] [(0, aR 100), (1, aI x1), (2, aI x2), (3, aI x3)] rfl ?_
            exact s_Tw_named_b154 P W x1 x2 X13 hX13 x3 (-1) x3 G
      · refine r_aload_n 62 1 dX15_named_61 rfl rfl rfl ?_
        refine r_get 65 (aR 197) dX15_named_62 fkX15_188 (fun _ => dsT_100 P W _) nn100 rfl rfl ?_
        refine r_bipush 67 32 dX15_named_65 rfl rfl ?_
        refine r_aload_n 68 1 dX15_named_67 rfl rfl rfl ?_
        refine r_get 71 (aR 152) dX15_named_68 fkX15_99 (fun _ => dsT_100 P W _) nn100 rfl rfl ?_
        refine r_iload_n 72 2 dX15_named_71 rfl rfl rfl ?_
        refine r_iald 73 dX15_named_72 (fun _ _ _ => dsT_152 P W _) (fun _ _ => nn152) rfl ?_
        refine r_imul 74 dX15_named_73 rfl ?_
        refine r_iload_n 75 4 dX15_named_74 rfl rfl rfl ?_
        refine r_iadd 76 dX15_named_75 rfl ?_
        refine r_iald 77 dX15_named_76 (fun _ _ _ => dsT_197 P W _) (fun _ _ => nn197) rfl ?_
        refine r_goto 154 dX15_named_77 rfl ?_
        refine r_to [1, 2, 3, 4] [(0, aR 100), (1, aI x1), (2, aI x2), (3, aI x3)] rfl ?_
        exact s_Tw_named_b154 P W x1 x2 X13 hX13 x3 (G 197 ((32 * (G 152 x1)) + x3)) x3 G
    · refine r_iconst 38 2 dX15_named_37 rfl rfl ?_
      refine r_aload_n 39 1 dX15_named_38 rfl rfl rfl ?_
      refine r_get 42 (aR 179) dX15_named_39 fkX15_142 (fun _ => dsT_100 P W _) nn100 rfl rfl ?_
      refine r_aload_n 43 1 dX15_named_42 rfl rfl rfl ?_
      refine r_get 46 (aR 152) dX15_named_43 fkX15_99 (fun _ => dsT_100 P W _) nn100 rfl rfl ?_
      refine r_iload_n 47 2 dX15_named_46 rfl rfl rfl ?_
      refine r_iald 48 dX15_named_47 (fun _ _ _ => dsT_152 P W _) (fun _ _ => nn152) rfl ?_
      refine r_iald 49 dX15_named_48 (fun _ _ _ => dsT_179 P W _) (fun _ _ => nn179) rfl ?_
      refine r_iload_n 50 4 dX15_named_49 rfl rfl rfl ?_
      refine r_iadd 51 dX15_named_50 rfl ?_
      refine r_imul 52 dX15_named_51 rfl ?_
      refine r_goto 154 dX15_named_52 rfl ?_
      refine r_to [1, 2, 3, 4] [(0, aR 100), (1, aI x1), (2, aI x2), (3, aI x3)] rfl ?_
      exact s_Tw_named_b154 P W x1 x2 X13 hX13 x3 (2 * ((G 179 (G 152 x1)) + x3)) x3 G
theorem sl_Tw_named_13 (P W : Int) (x1 : Int) (x2 : Int) (x3 : Int) (G : St) : SS (MTw_named P W) some 13 [(0, aR 100), (1, aI x1), (2, aI x2), (3, aI x3)] [] G (Tw_named_l13 P W x1 x2 x3 G) := by
  exact SS.loop (σ := Int × St) (fun s => [(0, aR 100), (1, aI x1), (2, aI x2), (3, aI (s.1))]) (fun s => s.2) (fun s => Tw_named_s13 P W x1 x2 s.1 s.2) (fun X13 hX13 s => s_Tw_named_s13 P W x1 x2  X13 hX13 s.1 s.2) (x3, G)
theorem s_Tw_named (P W : Int) (x1 : Int) (G : St) : SS (MTw_named P W) some 0 [(0, aR 100), (1, aI x1)] [] G (Tw_named P W x1 G) := by
  refine r_aload_n 1 0 dX15_named_0 rfl rfl rfl ?_
  refine r_aload_n 2 0 dX15_named_1 rfl rfl rfl ?_
  refine r_get 5 (aR 154) dX15_named_2 fkX15_105 (fun _ => dsT_100 P W _) nn100 rfl rfl ?_
  refine r_iload_n 6 1 dX15_named_5 rfl rfl rfl ?_
  refine r_iald 7 dX15_named_6 (fun _ _ _ => dsT_154 P W _) (fun _ _ => nn154) rfl ?_
  refine r_callvI 10 (Mc := MTw_widthOf P W) (o := 100) (as := [aI (G 154 x1)]) (st := []) dX15_named_7 rfl (c_Tw_widthOf P W (G 154 x1) G) lkX15_666 (cmTw_widthOf P W) rfl rfl rfl (fun _ => dsT_100 P W _) nn100 rfl (Nat.le_of_ble_eq_true rfl) (Nat.le_of_ble_eq_true rfl) (fun _ => rfl) rfl (fun z1 G2 => ?_)
  refine r_istore_n 11 [(2, aI z1), (0, aR 100), (1, aI x1)] dX15_named_10 rfl rfl rfl rfl ?_
  refine r_iconst 12 0 dX15_named_11 rfl rfl ?_
  refine r_istore_n 13 [(3, aI 0), (2, aI z1), (0, aR 100), (1, aI x1)] dX15_named_12 rfl rfl rfl rfl ?_
  refine r_to [2, 3, 1, 0] [(0, aR 100), (1, aI x1), (2, aI z1), (3, aI 0)] rfl ?_
  exact sl_Tw_named_13 P W x1 z1 0 G2
theorem c_Tw_named (P W : Int) (x1 : Int) (G : St) : MG (MTw_named P W) [aR 100, aI x1] G (Tw_named P W x1 G) := MG.of plX15 (Nat.le_of_ble_eq_true rfl) (s_Tw_named P W x1 G)
theorem s_Tw_step_b20 (P W : Int) (G : St) : SS (MTw_step P W) some 20 [(0, aR 100)] [] G (Tw_step_b20 G) := by
  refine r_aload_n 21 0 dX15_step_20 rfl rfl rfl ?_
  refine r_dup 22 dX15_step_21 rfl rfl ?_
  refine r_get 25 (aI (G 100 70)) dX15_step_22 fkX15_659 (fun _ => dsT_100 P W _) nn100 rfl rfl ?_
  refine r_iconst 26 1 dX15_step_25 rfl rfl ?_
  refine r_iadd 27 dX15_step_26 rfl ?_
  refine r_putI 30 dX15_step_27 fkX15_659 (fun _ => dsT_100 P W _) nn100 rfl rfl ?_
  refine ss_tk (fun G1 => ?_)
  exact r_return dX15_step_30 rfl
theorem s_Tw_step (P W : Int) (G : St) : SS (MTw_step P W) some 0 [(0, aR 100)] [] G (Tw_step G) := by
  refine r_aload_n 1 0 dX15_step_0 rfl rfl rfl ?_
  refine r_get 4 (aI (G 100 70)) dX15_step_1 fkX15_659 (fun _ => dsT_100 P W _) nn100 rfl rfl ?_
  refine r_ldcw 7 100000 dX15_step_4 q2570 (by decide) rfl rfl ?_
  refine r_icmp_ne 20 10 dX15_step_7 rfl rfl ?_ ?_
  · exact s_Tw_step_b20 P W G
  · refine r_aload_n 11 0 dX15_step_10 rfl rfl rfl ?_
    refine r_bipush 13 8 dX15_step_11 rfl rfl ?_
    refine r_aload_n 14 0 dX15_step_13 rfl rfl rfl ?_
    refine r_callvI 17 (Mc := MTw_statementPlace P W) (o := 100) (as := []) (st := [aI 8, aR 100]) dX15_step_14 rfl (c_Tw_statementPlace P W G) lkX15_627 (cmTw_statementPlace P W) rfl rfl rfl (fun _ => dsT_100 P W _) nn100 rfl (Nat.le_of_ble_eq_true rfl) (Nat.le_of_ble_eq_true rfl) (fun _ => rfl) rfl (fun z2 G3 => ?_)
    refine r_callvV 20 (Mc := MTw_fail P W) (o := 100) (as := [aI 8, aI z2]) (st := []) dX15_step_17 rfl (c_Tw_fail P W 8 z2 G3) lkX15_390 (cmTw_fail P W) rfl rfl rfl (fun _ => dsT_100 P W _) nn100 rfl (Nat.le_of_ble_eq_true rfl) (Nat.le_of_ble_eq_true rfl) (fun _ => rfl) rfl (fun z4 G5 => ?_)
    exact s_Tw_step_b20 P W G5
theorem c_Tw_step (P W : Int) (G : St) : MG (MTw_step P W) [aR 100] G (Tw_step G) := MG.of plX15 (Nat.le_of_ble_eq_true rfl) (s_Tw_step P W G)
theorem s_Tw_unary_b103 (P W : Int) (x2 : Int) (G : St) : SS (MTw_unary P W) some 103 [(0, aR 100), (2, aI x2)] [] G (Tw_unary_b103 P W x2 G) := by
  refine r_aload_n 104 0 dX15_unary_103 rfl rfl rfl ?_
  refine r_iload_n 105 1 dX15_unary_104 rfl rfl rfl ?_
  refine r_callvV 108 (Mc := MTw_pushZ P W) (o := 100) (as := [aI x2]) (st := []) dX15_unary_105 rfl (c_Tw_pushZ P W x2 G) lkX15_697 (cmTw_pushZ P W) rfl rfl rfl (fun _ => dsT_100 P W _) nn100 rfl (Nat.le_of_ble_eq_true rfl) (Nat.le_of_ble_eq_true rfl) (fun _ => rfl) rfl (fun z3 G4 => ?_)
  exact r_return dX15_unary_108 rfl
theorem s_Tw_unary_s78 (P W : Int) (x2 : Int) (X78 : Int × St → Option (Int × St)) (hX78 : ∀ s, So (MTw_unary P W) 78 [(0, aR 100), (2, aI x2), (3, aI (s.1))] [] s.2 (X78 s)) (x3 : Int) (G : St) : SS (MTw_unary P W) (lk X78 some) 78 [(0, aR 100), (2, aI x2), (3, aI x3)] [] G (Tw_unary_s78 P W x2 x3 G) := by
  refine r_iload_n 79 2 dX15_unary_78 rfl rfl rfl ?_
  refine r_iload_n 80 1 dX15_unary_79 rfl rfl rfl ?_
  refine r_icmp_ge 103 83 dX15_unary_80 rfl rfl ?_ ?_
  · refine SS.ex ?_
    refine r_to [0, 1] [(0, aR 100), (2, aI x2)] rfl ?_
    exact s_Tw_unary_b103 P W x2 G
  · refine r_aload_n 84 0 dX15_unary_83 rfl rfl rfl ?_
    refine r_get 87 (aR 189) dX15_unary_84 fkX15_167 (fun _ => dsT_100 P W _) nn100 rfl rfl ?_
    refine r_iload_n 88 2 dX15_unary_87 rfl rfl rfl ?_
    refine r_aload_n 89 0 dX15_unary_88 rfl rfl rfl ?_
    refine r_get 92 (aR 187) dX15_unary_89 fkX15_161 (fun _ => dsT_100 P W _) nn100 rfl rfl ?_
    refine r_iload_n 93 2 dX15_unary_92 rfl rfl rfl ?_
    refine r_iald 94 dX15_unary_93 (fun _ _ _ => dsT_187 P W _) (fun _ _ => nn187) rfl ?_
    refine r_iconst 95 1 dX15_unary_94 rfl rfl ?_
    refine r_ixor 96 dX15_unary_95 rfl ?_
    refine r_iast 97 dX15_unary_96 (fun _ _ _ => dsT_189 P W _) (fun _ _ => nn189) rfl ?_
    refine ss_tk (fun G5 => ?_)
    refine r_iinc 100 [(3, aI (x3 + 1)), (0, aR 100), (2, aI x2)] 2 dX15_unary_97 rfl rfl rfl rfl ?_
    refine r_goto 78 dX15_unary_100 rfl ?_
    refine r_to [1, 2, 0] [(0, aR 100), (2, aI x2), (3, aI (x3 + 1))] rfl ?_
    exact SS.back (hX78 (x3 + 1, G5))
theorem sl_Tw_unary_78 (P W : Int) (x2 : Int) (x3 : Int) (G : St) : SS (MTw_unary P W) some 78 [(0, aR 100), (2, aI x2), (3, aI x3)] [] G (Tw_unary_l78 P W x2 x3 G) := by
  exact SS.loop (σ := Int × St) (fun s => [(0, aR 100), (2, aI x2), (3, aI (s.1))]) (fun s => s.2) (fun s => Tw_unary_s78 P W x2 s.1 s.2) (fun X78 hX78 s => s_Tw_unary_s78 P W x2  X78 hX78 s.1 s.2) (x3, G)
theorem s_Tw_unary_s28 (P W : Int) (x2 : Int) (X28 : Int × St → Option (Int × St)) (hX28 : ∀ s, So (MTw_unary P W) 28 [(0, aR 100), (2, aI x2), (3, aI (s.1))] [] s.2 (X28 s)) (x3 : Int) (G : St) : SS (MTw_unary P W) (lk X28 some) 28 [(0, aR 100), (2, aI x2), (3, aI x3)] [] G (Tw_unary_s28 P W x2 x3 G) := by
  refine r_iload_n 29 2 dX15_unary_28 rfl rfl rfl ?_
  refine r_aload_n 30 0 dX15_unary_29 rfl rfl rfl ?_
  refine r_get 33 (aI W) dX15_unary_30 fkX15_303 (fun _ => dsT_100 P W _) nn100 rfl rfl ?_
  refine r_icmp_ge 64 36 dX15_unary_33 rfl rfl ?_ ?_
  · refine SS.ex ?_
    refine r_aload_n 65 0 dX15_unary_64 rfl rfl rfl ?_
    refine r_aload_n 66 0 dX15_unary_65 rfl rfl rfl ?_
    refine r_get 69 (aI W) dX15_unary_66 fkX15_303 (fun _ => dsT_100 P W _) nn100 rfl rfl ?_
    refine r_iconst 70 (-1) dX15_unary_69 rfl rfl ?_
    refine r_callvV 73 (Mc := MTw_sum P W) (o := 100) (as := [aI W, aI (-1)]) (st := []) dX15_unary_70 rfl (c_Tw_sum P W W (-1) G) lkX15_652 (cmTw_sum P W) rfl rfl rfl (fun _ => dsT_100 P W _) nn100 rfl (Nat.le_of_ble_eq_true rfl) (Nat.le_of_ble_eq_true rfl) (fun _ => rfl) rfl (fun z6 G7 => ?_)
    refine r_goto 103 dX15_unary_73 rfl ?_
    refine r_to [0, 1] [(0, aR 100), (2, aI x2)] rfl ?_
    exact s_Tw_unary_b103 P W x2 G7
  · refine r_aload_n 37 0 dX15_unary_36 rfl rfl rfl ?_
    refine r_get 40 (aR 188) dX15_unary_37 fkX15_164 (fun _ => dsT_100 P W _) nn100 rfl rfl ?_
    refine r_iload_n 41 2 dX15_unary_40 rfl rfl rfl ?_
    refine r_aload_n 42 0 dX15_unary_41 rfl rfl rfl ?_
    refine r_get 45 (aR 187) dX15_unary_42 fkX15_161 (fun _ => dsT_100 P W _) nn100 rfl rfl ?_
    refine r_iload_n 46 2 dX15_unary_45 rfl rfl rfl ?_
    refine r_iald 47 dX15_unary_46 (fun _ _ _ => dsT_187 P W _) (fun _ _ => nn187) rfl ?_
    refine r_iconst 48 1 dX15_unary_47 rfl rfl ?_
    refine r_ixor 49 dX15_unary_48 rfl ?_
    refine r_iast 50 dX15_unary_49 (fun _ _ _ => dsT_188 P W _) (fun _ _ => nn188) rfl ?_
    refine ss_tk (fun G8 => ?_)
    refine r_aload_n 51 0 dX15_unary_50 rfl rfl rfl ?_
    refine r_get 54 (aR 187) dX15_unary_51 fkX15_161 (fun _ => dsT_100 P W _) nn100 rfl rfl ?_
    refine r_iload_n 55 2 dX15_unary_54 rfl rfl rfl ?_
    refine r_bipush 57 (-2) dX15_unary_55 rfl rfl ?_
    refine r_iast 58 dX15_unary_57 (fun _ _ _ => dsT_187 P W _) (fun _ _ => nn187) rfl ?_
    refine ss_tk (fun G9 => ?_)
    refine r_iinc 61 [(3, aI (x3 + 1)), (0, aR 100), (2, aI x2)] 2 dX15_unary_58 rfl rfl rfl rfl ?_
    refine r_goto 28 dX15_unary_61 rfl ?_
    refine r_to [1, 2, 0] [(0, aR 100), (2, aI x2), (3, aI (x3 + 1))] rfl ?_
    exact SS.back (hX28 (x3 + 1, G9))
theorem sl_Tw_unary_28 (P W : Int) (x2 : Int) (x3 : Int) (G : St) : SS (MTw_unary P W) some 28 [(0, aR 100), (2, aI x2), (3, aI x3)] [] G (Tw_unary_l28 P W x2 x3 G) := by
  exact SS.loop (σ := Int × St) (fun s => [(0, aR 100), (2, aI x2), (3, aI (s.1))]) (fun s => s.2) (fun s => Tw_unary_s28 P W x2 s.1 s.2) (fun X28 hX28 s => s_Tw_unary_s28 P W x2  X28 hX28 s.1 s.2) (x3, G)
theorem s_Tw_unary_b14 (P W : Int) (x1 : Int) (s0 : Int) (G : St) : SS (MTw_unary P W) some 14 [(0, aR 100), (1, aI x1)] [aI s0] G (Tw_unary_b14 P W x1 s0 G) := by
  refine r_istore_n 15 [(2, aI s0), (0, aR 100), (1, aI x1)] dX15_unary_14 rfl rfl rfl rfl ?_
  refine r_aload_n 16 1 dX15_unary_15 rfl rfl rfl ?_
  refine r_iload_n 17 0 dX15_unary_16 rfl rfl rfl ?_
  refine r_callvV 20 (Mc := MTw_popX P W) (o := 100) (as := [aI s0]) (st := []) dX15_unary_17 rfl (c_Tw_popX P W s0 G) lkX15_709 (cmTw_popX P W) rfl rfl rfl (fun _ => dsT_100 P W _) nn100 rfl (Nat.le_of_ble_eq_true rfl) (Nat.le_of_ble_eq_true rfl) (fun _ => rfl) rfl (fun z1 G2 => ?_)
  refine r_iload_n 21 2 dX15_unary_20 rfl rfl rfl ?_
  refine r_bipush 23 45 dX15_unary_21 rfl rfl ?_
  refine r_icmp_ne 76 26 dX15_unary_23 rfl rfl ?_ ?_
  · refine r_iconst 77 0 dX15_unary_76 rfl rfl ?_
    refine r_istore_n 78 [(3, aI 0), (2, aI s0), (0, aR 100), (1, aI x1)] dX15_unary_77 rfl rfl rfl rfl ?_
    refine r_to [2, 1, 0] [(0, aR 100), (2, aI s0), (3, aI 0)] rfl ?_
    exact sl_Tw_unary_78 P W s0 0 G2
  · refine r_iconst 27 0 dX15_unary_26 rfl rfl ?_
    refine r_istore_n 28 [(3, aI 0), (2, aI s0), (0, aR 100), (1, aI x1)] dX15_unary_27 rfl rfl rfl rfl ?_
    refine r_to [2, 1, 0] [(0, aR 100), (2, aI s0), (3, aI 0)] rfl ?_
    exact sl_Tw_unary_28 P W s0 0 G2
theorem s_Tw_unary (P W : Int) (x1 : Int) (G : St) : SS (MTw_unary P W) some 0 [(0, aR 100), (1, aI x1)] [] G (Tw_unary P W x1 G) := by
  refine r_iload_n 1 1 dX15_unary_0 rfl rfl rfl ?_
  refine r_bipush 3 33 dX15_unary_1 rfl rfl ?_
  refine SS.phi (fun VV_ => Tw_unary_b14 P W x1 VV_ G) ?_
  refine r_icmp_ne 10 6 dX15_unary_3 rfl rfl ?_ ?_
  · refine r_aload_n 11 0 dX15_unary_10 rfl rfl rfl ?_
    refine r_get 14 (aI W) dX15_unary_11 fkX15_303 (fun _ => dsT_100 P W _) nn100 rfl rfl ?_
    exact s_Tw_unary_b14 P W x1 W G
  · refine r_iconst 7 1 dX15_unary_6 rfl rfl ?_
    refine r_goto 14 dX15_unary_7 rfl ?_
    exact s_Tw_unary_b14 P W x1 1 G
theorem c_Tw_unary (P W : Int) (x1 : Int) (G : St) : MG (MTw_unary P W) [aR 100, aI x1] G (Tw_unary P W x1 G) := MG.of plX15 (Nat.le_of_ble_eq_true rfl) (s_Tw_unary P W x1 G)
theorem s_Tw_operand_b435 (P W : Int) (x1 : Int) (G : St) : SS (MTw_operand P W) some 435 [(1, aI x1)] [] G (Tw_operand_b435 P W x1 G) := by
  refine r_iload_n 436 0 dX15_operand_435 rfl rfl rfl ?_
  refine r_iconst 437 1 dX15_operand_436 rfl rfl ?_
  refine r_iadd 438 dX15_operand_437 rfl ?_
  exact r_ireturn dX15_operand_438 rfl
theorem s_Tw_operand_b76 (P W : Int) (x1 : Int) (G : St) : SS (MTw_operand P W) some 76 [(0, aR 100), (1, aI x1)] [] G (Tw_operand_b76 P W x1 G) := by
  refine r_aload_n 77 0 dX15_operand_76 rfl rfl rfl ?_
  refine r_callvV 80 (Mc := MTw_step P W) (o := 100) (as := []) (st := []) dX15_operand_77 rfl (c_Tw_step P W G) lkX15_690 (cmTw_step P W) rfl rfl rfl (fun _ => dsT_100 P W _) nn100 rfl (Nat.le_of_ble_eq_true rfl) (Nat.le_of_ble_eq_true rfl) (fun _ => rfl) rfl (fun z1 G2 => ?_)
  refine r_goto 435 dX15_operand_80 rfl ?_
  refine r_to [1] [(1, aI x1)] rfl ?_
  exact s_Tw_operand_b435 P W x1 G2
theorem s_Tw_operand_b83 (P W : Int) (x1 : Int) (G : St) : SS (MTw_operand P W) some 83 [(0, aR 100), (1, aI x1)] [] G (Tw_operand_b83 P W x1 G) := by
  refine r_aload_n 84 0 dX15_operand_83 rfl rfl rfl ?_
  refine r_aload_n 85 0 dX15_operand_84 rfl rfl rfl ?_
  refine r_get 88 (aR 119) dX15_operand_85 fkX15_34 (fun _ => dsT_100 P W _) nn100 rfl rfl ?_
  refine r_iload_n 89 1 dX15_operand_88 rfl rfl rfl ?_
  refine r_lald 90 dX15_operand_89 (fun _ _ _ => dsT_119 P W _) (fun _ _ => nn119) rfl ?_
  refine r_aload_n 91 0 dX15_operand_90 rfl rfl rfl ?_
  refine r_get 94 (aI W) dX15_operand_91 fkX15_303 (fun _ => dsT_100 P W _) nn100 rfl rfl ?_
  refine r_callvV 97 (Mc := MTw_constantZ P W) (o := 100) (as := [aL (G 119 x1), aI W]) (st := []) dX15_operand_94 rfl (c_Tw_constantZ P W (G 119 x1) W G) lkX15_693 (cmTw_constantZ P W) rfl rfl rfl (fun _ => dsT_100 P W _) nn100 rfl (Nat.le_of_ble_eq_true rfl) (Nat.le_of_ble_eq_true rfl) (fun _ => rfl) rfl (fun z3 G4 => ?_)
  refine r_aload_n 98 0 dX15_operand_97 rfl rfl rfl ?_
  refine r_aload_n 99 0 dX15_operand_98 rfl rfl rfl ?_
  refine r_get 102 (aI W) dX15_operand_99 fkX15_303 (fun _ => dsT_100 P W _) nn100 rfl rfl ?_
  refine r_callvV 105 (Mc := MTw_pushZ P W) (o := 100) (as := [aI W]) (st := []) dX15_operand_102 rfl (c_Tw_pushZ P W W G4) lkX15_697 (cmTw_pushZ P W) rfl rfl rfl (fun _ => dsT_100 P W _) nn100 rfl (Nat.le_of_ble_eq_true rfl) (Nat.le_of_ble_eq_true rfl) (fun _ => rfl) rfl (fun z5 G6 => ?_)
  refine r_goto 435 dX15_operand_105 rfl ?_
  refine r_to [1] [(1, aI x1)] rfl ?_
  exact s_Tw_operand_b435 P W x1 G6
theorem s_Tw_operand_b129 (P W : Int) (x1 : Int) (s0 : Int) (s1 : Int) (G : St) : SS (MTw_operand P W) some 129 [(0, aR 100), (1, aI x1)] [aI s0, aI s1, aR 189] G (Tw_operand_b129 P W x1 s0 s1 G) := by
  refine r_iast 130 dX15_operand_129 (fun _ _ _ => dsT_189 P W _) (fun _ _ => nn189) rfl ?_
  refine ss_tk (fun G7 => ?_)
  refine r_aload_n 131 0 dX15_operand_130 rfl rfl rfl ?_
  refine r_iconst 132 1 dX15_operand_131 rfl rfl ?_
  refine r_callvV 135 (Mc := MTw_pushZ P W) (o := 100) (as := [aI 1]) (st := []) dX15_operand_132 rfl (c_Tw_pushZ P W 1 G7) lkX15_697 (cmTw_pushZ P W) rfl rfl rfl (fun _ => dsT_100 P W _) nn100 rfl (Nat.le_of_ble_eq_true rfl) (Nat.le_of_ble_eq_true rfl) (fun _ => rfl) rfl (fun z8 G9 => ?_)
  refine r_goto 435 dX15_operand_135 rfl ?_
  refine r_to [1] [(1, aI x1)] rfl ?_
  exact s_Tw_operand_b435 P W x1 G9
theorem s_Tw_operand_b108 (P W : Int) (x1 : Int) (G : St) : SS (MTw_operand P W) some 108 [(0, aR 100), (1, aI x1)] [] G (Tw_operand_b108 P W x1 G) := by
  refine r_aload_n 109 0 dX15_operand_108 rfl rfl rfl ?_
  refine r_get 112 (aR 189) dX15_operand_109 fkX15_167 (fun _ => dsT_100 P W _) nn100 rfl rfl ?_
  refine r_iconst 113 0 dX15_operand_112 rfl rfl ?_
  refine r_aload_n 114 0 dX15_operand_113 rfl rfl rfl ?_
  refine r_get 117 (aR 115) dX15_operand_114 fkX15_22 (fun _ => dsT_100 P W _) nn100 rfl rfl ?_
  refine r_iload_n 118 1 dX15_operand_117 rfl rfl rfl ?_
  refine r_iald 119 dX15_operand_118 (fun _ _ _ => dsT_115 P W _) (fun _ _ => nn115) rfl ?_
  refine r_iconst 120 3 dX15_operand_119 rfl rfl ?_
  refine SS.phi (fun VV_ => Tw_operand_b129 P W x1 VV_ 0 G) ?_
  refine r_icmp_ne 127 123 dX15_operand_120 rfl rfl ?_ ?_
  · refine r_bipush 129 (-2) dX15_operand_127 rfl rfl ?_
    exact s_Tw_operand_b129 P W x1 (-2) 0 G
  · refine r_iconst 124 (-1) dX15_operand_123 rfl rfl ?_
    refine r_goto 129 dX15_operand_124 rfl ?_
    exact s_Tw_operand_b129 P W x1 (-1) 0 G
theorem s_Tw_operand_b138 (P W : Int) (x1 : Int) (G : St) : SS (MTw_operand P W) some 138 [(0, aR 100), (1, aI x1)] [] G (Tw_operand_b138 P W x1 G) := by
  refine r_aload_n 139 0 dX15_operand_138 rfl rfl rfl ?_
  refine r_iload_n 140 1 dX15_operand_139 rfl rfl rfl ?_
  refine r_callvV 143 (Mc := MTw_named P W) (o := 100) (as := [aI x1]) (st := []) dX15_operand_140 rfl (c_Tw_named P W x1 G) lkX15_700 (cmTw_named P W) rfl rfl rfl (fun _ => dsT_100 P W _) nn100 rfl (Nat.le_of_ble_eq_true rfl) (Nat.le_of_ble_eq_true rfl) (fun _ => rfl) rfl (fun z10 G11 => ?_)
  refine r_goto 435 dX15_operand_143 rfl ?_
  refine r_to [1] [(1, aI x1)] rfl ?_
  exact s_Tw_operand_b435 P W x1 G11
theorem s_Tw_operand_b146 (P W : Int) (x1 : Int) (G : St) : SS (MTw_operand P W) some 146 [(0, aR 100), (1, aI x1)] [] G (Tw_operand_b146 P W x1 G) := by
  refine r_aload_n 147 0 dX15_operand_146 rfl rfl rfl ?_
  refine r_iload_n 148 1 dX15_operand_147 rfl rfl rfl ?_
  refine r_callvV 151 (Mc := MTw_indexed P W) (o := 100) (as := [aI x1]) (st := []) dX15_operand_148 rfl (c_Tw_indexed P W x1 G) lkX15_703 (cmTw_indexed P W) rfl rfl rfl (fun _ => dsT_100 P W _) nn100 rfl (Nat.le_of_ble_eq_true rfl) (Nat.le_of_ble_eq_true rfl) (fun _ => rfl) rfl (fun z12 G13 => ?_)
  refine r_goto 435 dX15_operand_151 rfl ?_
  refine r_to [1] [(1, aI x1)] rfl ?_
  exact s_Tw_operand_b435 P W x1 G13
theorem s_Tw_operand_b154 (P W : Int) (x1 : Int) (G : St) : SS (MTw_operand P W) some 154 [(0, aR 100), (1, aI x1)] [] G (Tw_operand_b154 P W x1 G) := by
  refine r_aload_n 155 0 dX15_operand_154 rfl rfl rfl ?_
  refine r_get 158 (aR 152) dX15_operand_155 fkX15_99 (fun _ => dsT_100 P W _) nn100 rfl rfl ?_
  refine r_iload_n 159 1 dX15_operand_158 rfl rfl rfl ?_
  refine r_iald 160 dX15_operand_159 (fun _ _ _ => dsT_152 P W _) (fun _ _ => nn152) rfl ?_
  refine r_istore_n 161 [(2, aI (G 152 x1)), (0, aR 100), (1, aI x1)] dX15_operand_160 rfl rfl rfl rfl ?_
  refine r_aload_n 162 1 dX15_operand_161 rfl rfl rfl ?_
  refine r_get 165 (aR 212) dX15_operand_162 fkX15_225 (fun _ => dsT_100 P W _) nn100 rfl rfl ?_
  refine r_aload_n 166 1 dX15_operand_165 rfl rfl rfl ?_
  refine r_get 169 (aI (G 100 110)) dX15_operand_166 fkX15_681 (fun _ => dsT_100 P W _) nn100 rfl rfl ?_
  refine r_aload_n 170 1 dX15_operand_169 rfl rfl rfl ?_
  refine r_get 173 (aI (G 100 85)) dX15_operand_170 fkX15_649 (fun _ => dsT_100 P W _) nn100 rfl rfl ?_
  refine r_aload_n 174 1 dX15_operand_173 rfl rfl rfl ?_
  refine r_get 177 (aR 117) dX15_operand_174 fkX15_28 (fun _ => dsT_100 P W _) nn100 rfl rfl ?_
  refine r_iload_n 178 0 dX15_operand_177 rfl rfl rfl ?_
  refine r_iald 179 dX15_operand_178 (fun _ _ _ => dsT_117 P W _) (fun _ _ => nn117) rfl ?_
  refine r_isub 180 dX15_operand_179 rfl ?_
  refine r_iast 181 dX15_operand_180 (fun _ _ _ => dsT_212 P W _) (fun _ _ => nn212) rfl ?_
  refine ss_tk (fun G14 => ?_)
  refine r_aload_n 182 1 dX15_operand_181 rfl rfl rfl ?_
  refine r_get 185 (aR 213) dX15_operand_182 fkX15_228 (fun _ => dsT_100 P W _) nn100 rfl rfl ?_
  refine r_aload_n 186 1 dX15_operand_185 rfl rfl rfl ?_
  refine r_get 189 (aI (G14 100 110)) dX15_operand_186 fkX15_681 (fun _ => dsT_100 P W _) nn100 rfl rfl ?_
  refine r_iload_n 190 2 dX15_operand_189 rfl rfl rfl ?_
  refine r_iconst 191 1 dX15_operand_190 rfl rfl ?_
  refine r_iadd 192 dX15_operand_191 rfl ?_
  refine r_iast 193 dX15_operand_192 (fun _ _ _ => dsT_213 P W _) (fun _ _ => nn213) rfl ?_
  refine ss_tk (fun G15 => ?_)
  refine r_aload_n 194 1 dX15_operand_193 rfl rfl rfl ?_
  refine r_dup 195 dX15_operand_194 rfl rfl ?_
  refine r_get 198 (aI (G15 100 110)) dX15_operand_195 fkX15_681 (fun _ => dsT_100 P W _) nn100 rfl rfl ?_
  refine r_iconst 199 1 dX15_operand_198 rfl rfl ?_
  refine r_iadd 200 dX15_operand_199 rfl ?_
  refine r_putI 203 dX15_operand_200 fkX15_681 (fun _ => dsT_100 P W _) nn100 rfl rfl ?_
  refine ss_tk (fun G16 => ?_)
  refine r_aload_n 204 1 dX15_operand_203 rfl rfl rfl ?_
  refine r_iload_n 205 0 dX15_operand_204 rfl rfl rfl ?_
  refine r_callvI 208 (Mc := MTw_bodyOf P W) (o := 100) (as := [aI (G 152 x1)]) (st := []) dX15_operand_205 rfl (c_Tw_bodyOf P W (G 152 x1) G16) lkX15_706 (cmTw_bodyOf P W) rfl rfl rfl (fun _ => dsT_100 P W _) nn100 rfl (Nat.le_of_ble_eq_true rfl) (Nat.le_of_ble_eq_true rfl) (fun _ => rfl) rfl (fun z17 G18 => ?_)
  exact r_ireturn dX15_operand_208 rfl
theorem s_Tw_operand_b209 (P W : Int) (x1 : Int) (G : St) : SS (MTw_operand P W) some 209 [(0, aR 100), (1, aI x1)] [] G (Tw_operand_b209 P W x1 G) := by
  refine r_aload_n 210 0 dX15_operand_209 rfl rfl rfl ?_
  refine r_iconst 211 1 dX15_operand_210 rfl rfl ?_
  refine r_callvV 214 (Mc := MTw_popX P W) (o := 100) (as := [aI 1]) (st := []) dX15_operand_211 rfl (c_Tw_popX P W 1 G) lkX15_709 (cmTw_popX P W) rfl rfl rfl (fun _ => dsT_100 P W _) nn100 rfl (Nat.le_of_ble_eq_true rfl) (Nat.le_of_ble_eq_true rfl) (fun _ => rfl) rfl (fun z19 G20 => ?_)
  refine r_aload_n 215 0 dX15_operand_214 rfl rfl rfl ?_
  refine r_lconst 216 0 dX15_operand_215 rfl rfl rfl ?_
  refine r_aload_n 217 0 dX15_operand_216 rfl rfl rfl ?_
  refine r_get 220 (aI W) dX15_operand_217 fkX15_303 (fun _ => dsT_100 P W _) nn100 rfl rfl ?_
  refine r_callvV 223 (Mc := MTw_constantZ P W) (o := 100) (as := [aL 0, aI W]) (st := []) dX15_operand_220 rfl (c_Tw_constantZ P W 0 W G20) lkX15_693 (cmTw_constantZ P W) rfl rfl rfl (fun _ => dsT_100 P W _) nn100 rfl (Nat.le_of_ble_eq_true rfl) (Nat.le_of_ble_eq_true rfl) (fun _ => rfl) rfl (fun z21 G22 => ?_)
  refine r_aload_n 224 0 dX15_operand_223 rfl rfl rfl ?_
  refine r_get 227 (aR 189) dX15_operand_224 fkX15_167 (fun _ => dsT_100 P W _) nn100 rfl rfl ?_
  refine r_iconst 228 0 dX15_operand_227 rfl rfl ?_
  refine r_aload_n 229 0 dX15_operand_228 rfl rfl rfl ?_
  refine r_get 232 (aR 187) dX15_operand_229 fkX15_161 (fun _ => dsT_100 P W _) nn100 rfl rfl ?_
  refine r_iconst 233 0 dX15_operand_232 rfl rfl ?_
  refine r_iald 234 dX15_operand_233 (fun _ _ _ => dsT_187 P W _) (fun _ _ => nn187) rfl ?_
  refine r_iast 235 dX15_operand_234 (fun _ _ _ => dsT_189 P W _) (fun _ _ => nn189) rfl ?_
  refine ss_tk (fun G23 => ?_)
  refine r_aload_n 236 0 dX15_operand_235 rfl rfl rfl ?_
  refine r_aload_n 237 0 dX15_operand_236 rfl rfl rfl ?_
  refine r_get 240 (aI W) dX15_operand_237 fkX15_303 (fun _ => dsT_100 P W _) nn100 rfl rfl ?_
  refine r_callvV 243 (Mc := MTw_pushZ P W) (o := 100) (as := [aI W]) (st := []) dX15_operand_240 rfl (c_Tw_pushZ P W W G23) lkX15_697 (cmTw_pushZ P W) rfl rfl rfl (fun _ => dsT_100 P W _) nn100 rfl (Nat.le_of_ble_eq_true rfl) (Nat.le_of_ble_eq_true rfl) (fun _ => rfl) rfl (fun z24 G25 => ?_)
  refine r_goto 435 dX15_operand_243 rfl ?_
  refine r_to [1] [(1, aI x1)] rfl ?_
  exact s_Tw_operand_b435 P W x1 G25
theorem s_Tw_operand_b246 (P W : Int) (x1 : Int) (G : St) : SS (MTw_operand P W) some 246 [(0, aR 100), (1, aI x1)] [] G (Tw_operand_b246 P W x1 G) := by
  refine r_aload_n 247 0 dX15_operand_246 rfl rfl rfl ?_
  refine r_aload_n 248 0 dX15_operand_247 rfl rfl rfl ?_
  refine r_get 251 (aI (G 100 85)) dX15_operand_248 fkX15_649 (fun _ => dsT_100 P W _) nn100 rfl rfl ?_
  refine r_iconst 252 1 dX15_operand_251 rfl rfl ?_
  refine r_isub 253 dX15_operand_252 rfl ?_
  refine r_callvL 256 (Mc := MTw_worthOf P W) (o := 100) (as := [aI ((G 100 85) - 1)]) (st := []) dX15_operand_253 rfl (c_Tw_worthOf P W ((G 100 85) - 1) G) lkX15_712 (cmTw_worthOf P W) rfl rfl rfl (fun _ => dsT_100 P W _) nn100 rfl (Nat.le_of_ble_eq_true rfl) (Nat.le_of_ble_eq_true rfl) (fun _ => rfl) rfl (fun z26 G27 => ?_)
  refine r_lstore_n 257 [(2, aL z26), (0, aR 100), (1, aI x1)] dX15_operand_256 rfl rfl rfl rfl ?_
  refine r_lload_n 258 0 dX15_operand_257 rfl rfl rfl ?_
  refine r_aload_n 259 1 dX15_operand_258 rfl rfl rfl ?_
  refine r_get 262 (aI W) dX15_operand_259 fkX15_303 (fun _ => dsT_100 P W _) nn100 rfl rfl ?_
  refine r_i2l 263 dX15_operand_262 rfl ?_
  refine r_lif_lt 264 282 267 dX15_operand_263 rfl dX15_operand_264 rfl rfl ?_ ?_
  · refine r_aload_n 283 1 dX15_operand_282 rfl rfl rfl ?_
    refine r_dup 284 dX15_operand_283 rfl rfl ?_
    refine r_get 287 (aI (G27 100 85)) dX15_operand_284 fkX15_649 (fun _ => dsT_100 P W _) nn100 rfl rfl ?_
    refine r_iconst 288 1 dX15_operand_287 rfl rfl ?_
    refine r_isub 289 dX15_operand_288 rfl ?_
    refine r_putI 292 dX15_operand_289 fkX15_649 (fun _ => dsT_100 P W _) nn100 rfl rfl ?_
    refine ss_tk (fun G28 => ?_)
    refine r_aload_n 293 1 dX15_operand_292 rfl rfl rfl ?_
    refine r_aload_n 294 1 dX15_operand_293 rfl rfl rfl ?_
    refine r_get 297 (aI W) dX15_operand_294 fkX15_303 (fun _ => dsT_100 P W _) nn100 rfl rfl ?_
    refine r_callvV 300 (Mc := MTw_popX P W) (o := 100) (as := [aI W]) (st := []) dX15_operand_297 rfl (c_Tw_popX P W W G28) lkX15_709 (cmTw_popX P W) rfl rfl rfl (fun _ => dsT_100 P W _) nn100 rfl (Nat.le_of_ble_eq_true rfl) (Nat.le_of_ble_eq_true rfl) (fun _ => rfl) rfl (fun z29 G30 => ?_)
    refine r_aload_n 301 1 dX15_operand_300 rfl rfl rfl ?_
    refine r_get 304 (aR 189) dX15_operand_301 fkX15_167 (fun _ => dsT_100 P W _) nn100 rfl rfl ?_
    refine r_iconst 305 0 dX15_operand_304 rfl rfl ?_
    refine r_aload_n 306 1 dX15_operand_305 rfl rfl rfl ?_
    refine r_get 309 (aR 187) dX15_operand_306 fkX15_161 (fun _ => dsT_100 P W _) nn100 rfl rfl ?_
    refine r_lload_n 310 0 dX15_operand_309 rfl rfl rfl ?_
    refine r_l2iw 311 dX15_operand_310 rfl ?_
    refine r_iald 312 dX15_operand_311 (fun _ _ _ => dsT_187 P W _) (fun _ _ => nn187) rfl ?_
    refine r_iast 313 dX15_operand_312 (fun _ _ _ => dsT_189 P W _) (fun _ _ => nn189) rfl ?_
    refine ss_tk (fun G31 => ?_)
    refine r_aload_n 314 1 dX15_operand_313 rfl rfl rfl ?_
    refine r_iconst 315 1 dX15_operand_314 rfl rfl ?_
    refine r_callvV 318 (Mc := MTw_pushZ P W) (o := 100) (as := [aI 1]) (st := []) dX15_operand_315 rfl (c_Tw_pushZ P W 1 G31) lkX15_697 (cmTw_pushZ P W) rfl rfl rfl (fun _ => dsT_100 P W _) nn100 rfl (Nat.le_of_ble_eq_true rfl) (Nat.le_of_ble_eq_true rfl) (fun _ => rfl) rfl (fun z32 G33 => ?_)
    refine r_goto 435 dX15_operand_318 rfl ?_
    refine r_to [2] [(1, aI x1)] rfl ?_
    exact s_Tw_operand_b435 P W x1 G33
  · refine r_aload_n 268 1 dX15_operand_267 rfl rfl rfl ?_
    refine r_bipush 270 7 dX15_operand_268 rfl rfl ?_
    refine r_aload_n 271 1 dX15_operand_270 rfl rfl rfl ?_
    refine r_get 274 (aR 155) dX15_operand_271 fkX15_108 (fun _ => dsT_100 P W _) nn100 rfl rfl ?_
    refine r_iload_n 275 2 dX15_operand_274 rfl rfl rfl ?_
    refine r_iald 276 dX15_operand_275 (fun _ _ _ => dsT_155 P W _) (fun _ _ => nn155) rfl ?_
    refine r_callvV 279 (Mc := MTw_fail P W) (o := 100) (as := [aI 7, aI (G27 155 x1)]) (st := []) dX15_operand_276 rfl (c_Tw_fail P W 7 (G27 155 x1) G27) lkX15_390 (cmTw_fail P W) rfl rfl rfl (fun _ => dsT_100 P W _) nn100 rfl (Nat.le_of_ble_eq_true rfl) (Nat.le_of_ble_eq_true rfl) (fun _ => rfl) rfl (fun z34 G35 => ?_)
    refine r_goto 435 dX15_operand_279 rfl ?_
    refine r_to [2] [(1, aI x1)] rfl ?_
    exact s_Tw_operand_b435 P W x1 G35
theorem s_Tw_operand_b321 (P W : Int) (x1 : Int) (G : St) : SS (MTw_operand P W) some 321 [(0, aR 100), (1, aI x1)] [] G (Tw_operand_b321 P W x1 G) := by
  refine r_aload_n 322 0 dX15_operand_321 rfl rfl rfl ?_
  refine r_aload_n 323 0 dX15_operand_322 rfl rfl rfl ?_
  refine r_get 326 (aR 116) dX15_operand_323 fkX15_25 (fun _ => dsT_100 P W _) nn100 rfl rfl ?_
  refine r_iload_n 327 1 dX15_operand_326 rfl rfl rfl ?_
  refine r_iald 328 dX15_operand_327 (fun _ _ _ => dsT_116 P W _) (fun _ _ => nn116) rfl ?_
  refine r_callvV 331 (Mc := MTw_unary P W) (o := 100) (as := [aI (G 116 x1)]) (st := []) dX15_operand_328 rfl (c_Tw_unary P W (G 116 x1) G) lkX15_716 (cmTw_unary P W) rfl rfl rfl (fun _ => dsT_100 P W _) nn100 rfl (Nat.le_of_ble_eq_true rfl) (Nat.le_of_ble_eq_true rfl) (fun _ => rfl) rfl (fun z36 G37 => ?_)
  refine r_goto 435 dX15_operand_331 rfl ?_
  refine r_to [1] [(1, aI x1)] rfl ?_
  exact s_Tw_operand_b435 P W x1 G37
theorem s_Tw_operand_b334 (P W : Int) (x1 : Int) (G : St) : SS (MTw_operand P W) some 334 [(0, aR 100), (1, aI x1)] [] G (Tw_operand_b334 P W x1 G) := by
  refine r_aload_n 335 0 dX15_operand_334 rfl rfl rfl ?_
  refine r_iload_n 336 1 dX15_operand_335 rfl rfl rfl ?_
  refine r_callvV 339 (Mc := MTw_binary P W) (o := 100) (as := [aI x1]) (st := []) dX15_operand_336 rfl (c_Tw_binary P W x1 G) lkX15_719 (cmTw_binary P W) rfl rfl rfl (fun _ => dsT_100 P W _) nn100 rfl (Nat.le_of_ble_eq_true rfl) (Nat.le_of_ble_eq_true rfl) (fun _ => rfl) rfl (fun z38 G39 => ?_)
  refine r_goto 435 dX15_operand_339 rfl ?_
  refine r_to [1] [(1, aI x1)] rfl ?_
  exact s_Tw_operand_b435 P W x1 G39
theorem s_Tw_operand_s389 (P W : Int) (x1 : Int) (x2 : Int) (x3 : Int) (X389 : Int × St → Option (Int × St)) (hX389 : ∀ s, So (MTw_operand P W) 389 [(0, aR 100), (1, aI x1), (2, aI x2), (3, aI x3), (4, aI (s.1))] [] s.2 (X389 s)) (x4 : Int) (G : St) : SS (MTw_operand P W) (lk X389 some) 389 [(0, aR 100), (1, aI x1), (2, aI x2), (3, aI x3), (4, aI x4)] [] G (Tw_operand_s389 P W x1 x2 x3 x4 G) := by
  refine r_iload 391 4 dX15_operand_389 rfl rfl ?_
  refine r_iload_n 392 2 dX15_operand_391 rfl rfl rfl ?_
  refine r_icmp_ge 427 395 dX15_operand_392 rfl rfl ?_ ?_
  · refine SS.ex ?_
    refine r_aload_n 428 0 dX15_operand_427 rfl rfl rfl ?_
    refine r_iload_n 429 2 dX15_operand_428 rfl rfl rfl ?_
    refine r_callvV 432 (Mc := MTw_pushZ P W) (o := 100) (as := [aI x2]) (st := []) dX15_operand_429 rfl (c_Tw_pushZ P W x2 G) lkX15_697 (cmTw_pushZ P W) rfl rfl rfl (fun _ => dsT_100 P W _) nn100 rfl (Nat.le_of_ble_eq_true rfl) (Nat.le_of_ble_eq_true rfl) (fun _ => rfl) rfl (fun z47 G48 => ?_)
    refine r_goto 435 dX15_operand_432 rfl ?_
    refine r_to [1] [(1, aI x1)] rfl ?_
    exact s_Tw_operand_b435 P W x1 G48
  · refine r_aload_n 396 0 dX15_operand_395 rfl rfl rfl ?_
    refine r_get 399 (aR 189) dX15_operand_396 fkX15_167 (fun _ => dsT_100 P W _) nn100 rfl rfl ?_
    refine r_iload 401 4 dX15_operand_399 rfl rfl ?_
    refine r_aload_n 402 0 dX15_operand_401 rfl rfl rfl ?_
    refine r_iload_n 403 3 dX15_operand_402 rfl rfl rfl ?_
    refine r_aload_n 404 0 dX15_operand_403 rfl rfl rfl ?_
    refine r_get 407 (aR 187) dX15_operand_404 fkX15_161 (fun _ => dsT_100 P W _) nn100 rfl rfl ?_
    refine r_iload 409 4 dX15_operand_407 rfl rfl ?_
    refine r_iald 410 dX15_operand_409 (fun _ _ _ => dsT_187 P W _) (fun _ _ => nn187) rfl ?_
    refine r_aload_n 411 0 dX15_operand_410 rfl rfl rfl ?_
    refine r_get 414 (aR 188) dX15_operand_411 fkX15_164 (fun _ => dsT_100 P W _) nn100 rfl rfl ?_
    refine r_iload 416 4 dX15_operand_414 rfl rfl ?_
    refine r_iald 417 dX15_operand_416 (fun _ _ _ => dsT_188 P W _) (fun _ _ => nn188) rfl ?_
    refine r_callvI 420 (Mc := MTw_mux P W) (o := 100) (as := [aI x3, aI (G 187 x4), aI (G 188 x4)]) (st := [aI x4, aR 189]) dX15_operand_417 rfl (c_Tw_mux P W x3 (G 187 x4) (G 188 x4) G) lkX15_655 (cmTw_mux P W) rfl rfl rfl (fun _ => dsT_100 P W _) nn100 rfl (Nat.le_of_ble_eq_true rfl) (Nat.le_of_ble_eq_true rfl) (fun _ => rfl) rfl (fun z49 G50 => ?_)
    refine r_iast 421 dX15_operand_420 (fun _ _ _ => dsT_189 P W _) (fun _ _ => nn189) rfl ?_
    refine ss_tk (fun G51 => ?_)
    refine r_iinc 424 [(4, aI (x4 + 1)), (0, aR 100), (1, aI x1), (2, aI x2), (3, aI x3)] 4 dX15_operand_421 rfl rfl rfl rfl ?_
    refine r_goto 389 dX15_operand_424 rfl ?_
    refine r_to [1, 2, 3, 4, 0] [(0, aR 100), (1, aI x1), (2, aI x2), (3, aI x3), (4, aI (x4 + 1))] rfl ?_
    exact SS.back (hX389 (x4 + 1, G51))
theorem sl_Tw_operand_389 (P W : Int) (x1 : Int) (x2 : Int) (x3 : Int) (x4 : Int) (G : St) : SS (MTw_operand P W) some 389 [(0, aR 100), (1, aI x1), (2, aI x2), (3, aI x3), (4, aI x4)] [] G (Tw_operand_l389 P W x1 x2 x3 x4 G) := by
  exact SS.loop (σ := Int × St) (fun s => [(0, aR 100), (1, aI x1), (2, aI x2), (3, aI x3), (4, aI (s.1))]) (fun s => s.2) (fun s => Tw_operand_s389 P W x1 x2 x3 s.1 s.2) (fun X389 hX389 s => s_Tw_operand_s389 P W x1 x2 x3  X389 hX389 s.1 s.2) (x4, G)
theorem s_Tw_operand_b342 (P W : Int) (x1 : Int) (G : St) : SS (MTw_operand P W) some 342 [(0, aR 100), (1, aI x1)] [] G (Tw_operand_b342 P W x1 G) := by
  refine r_aload_n 343 0 dX15_operand_342 rfl rfl rfl ?_
  refine r_aload_n 344 0 dX15_operand_343 rfl rfl rfl ?_
  refine r_get 347 (aR 117) dX15_operand_344 fkX15_28 (fun _ => dsT_100 P W _) nn100 rfl rfl ?_
  refine r_iload_n 348 1 dX15_operand_347 rfl rfl rfl ?_
  refine r_iald 349 dX15_operand_348 (fun _ _ _ => dsT_117 P W _) (fun _ _ => nn117) rfl ?_
  refine r_callvI 352 (Mc := MTw_widthOf P W) (o := 100) (as := [aI (G 117 x1)]) (st := []) dX15_operand_349 rfl (c_Tw_widthOf P W (G 117 x1) G) lkX15_666 (cmTw_widthOf P W) rfl rfl rfl (fun _ => dsT_100 P W _) nn100 rfl (Nat.le_of_ble_eq_true rfl) (Nat.le_of_ble_eq_true rfl) (fun _ => rfl) rfl (fun z40 G41 => ?_)
  refine r_istore_n 353 [(2, aI z40), (0, aR 100), (1, aI x1)] dX15_operand_352 rfl rfl rfl rfl ?_
  refine r_aload_n 354 1 dX15_operand_353 rfl rfl rfl ?_
  refine r_iload_n 355 0 dX15_operand_354 rfl rfl rfl ?_
  refine r_callvV 358 (Mc := MTw_popY P W) (o := 100) (as := [aI z40]) (st := []) dX15_operand_355 rfl (c_Tw_popY P W z40 G41) lkX15_722 (cmTw_popY P W) rfl rfl rfl (fun _ => dsT_100 P W _) nn100 rfl (Nat.le_of_ble_eq_true rfl) (Nat.le_of_ble_eq_true rfl) (fun _ => rfl) rfl (fun z42 G43 => ?_)
  refine r_aload_n 359 1 dX15_operand_358 rfl rfl rfl ?_
  refine r_iload_n 360 0 dX15_operand_359 rfl rfl rfl ?_
  refine r_callvV 363 (Mc := MTw_popX P W) (o := 100) (as := [aI z40]) (st := []) dX15_operand_360 rfl (c_Tw_popX P W z40 G43) lkX15_709 (cmTw_popX P W) rfl rfl rfl (fun _ => dsT_100 P W _) nn100 rfl (Nat.le_of_ble_eq_true rfl) (Nat.le_of_ble_eq_true rfl) (fun _ => rfl) rfl (fun z44 G45 => ?_)
  refine r_aload_n 364 1 dX15_operand_363 rfl rfl rfl ?_
  refine r_dup 365 dX15_operand_364 rfl rfl ?_
  refine r_get 368 (aI (G45 100 85)) dX15_operand_365 fkX15_649 (fun _ => dsT_100 P W _) nn100 rfl rfl ?_
  refine r_iconst 369 1 dX15_operand_368 rfl rfl ?_
  refine r_isub 370 dX15_operand_369 rfl ?_
  refine r_putI 373 dX15_operand_370 fkX15_649 (fun _ => dsT_100 P W _) nn100 rfl rfl ?_
  refine ss_tk (fun G46 => ?_)
  refine r_aload_n 374 1 dX15_operand_373 rfl rfl rfl ?_
  refine r_get 377 (aR 185) dX15_operand_374 fkX15_158 (fun _ => dsT_100 P W _) nn100 rfl rfl ?_
  refine r_bipush 379 32 dX15_operand_377 rfl rfl ?_
  refine r_aload_n 380 1 dX15_operand_379 rfl rfl rfl ?_
  refine r_get 383 (aI (G46 100 85)) dX15_operand_380 fkX15_649 (fun _ => dsT_100 P W _) nn100 rfl rfl ?_
  refine r_imul 384 dX15_operand_383 rfl ?_
  refine r_iald 385 dX15_operand_384 (fun _ _ _ => dsT_185 P W _) (fun _ _ => nn185) rfl ?_
  refine r_istore_n 386 [(3, aI (G46 185 (32 * (G46 100 85)))), (2, aI z40), (0, aR 100), (1, aI x1)] dX15_operand_385 rfl rfl rfl rfl ?_
  refine r_iconst 387 0 dX15_operand_386 rfl rfl ?_
  refine r_istore 389 [(4, aI 0), (3, aI (G46 185 (32 * (G46 100 85)))), (2, aI z40), (0, aR 100), (1, aI x1)] dX15_operand_387 rfl rfl rfl ?_
  refine r_to [3, 4, 2, 1, 0] [(0, aR 100), (1, aI x1), (2, aI z40), (3, aI (G46 185 (32 * (G46 100 85)))), (4, aI 0)] rfl ?_
  exact sl_Tw_operand_389 P W x1 z40 (G46 185 (32 * (G46 100 85))) 0 G46
theorem s_Tw_operand (P W : Int) (x1 : Int) (G : St) : SS (MTw_operand P W) some 0 [(0, aR 100), (1, aI x1)] [] G (Tw_operand P W x1 G) := by
  refine r_aload_n 1 0 dX15_operand_0 rfl rfl rfl ?_
  refine r_get 4 (aR 115) dX15_operand_1 fkX15_22 (fun _ => dsT_100 P W _) nn100 rfl rfl ?_
  refine r_iload_n 5 1 dX15_operand_4 rfl rfl rfl ?_
  refine r_iald 6 dX15_operand_5 (fun _ _ _ => dsT_115 P W _) (fun _ _ => nn115) rfl ?_
  refine r_tsw 435 [(76, Tw_operand_b76 P W x1 G), (83, Tw_operand_b83 P W x1 G), (108, Tw_operand_b108 P W x1 G), (108, Tw_operand_b108 P W x1 G), (138, Tw_operand_b138 P W x1 G), (435, Tw_operand_b435 P W x1 G), (146, Tw_operand_b146 P W x1 G), (435, Tw_operand_b435 P W x1 G), (154, Tw_operand_b154 P W x1 G), (209, Tw_operand_b209 P W x1 G), (246, Tw_operand_b246 P W x1 G), (321, Tw_operand_b321 P W x1 G), (334, Tw_operand_b334 P W x1 G), (342, Tw_operand_b342 P W x1 G)] dX15_operand_6 rfl rfl rfl ⟨?_, ?_, ?_, ?_, ?_, ?_, ?_, ?_, ?_, ?_, ?_, ?_, ?_, ?_, trivial⟩ ?_
  · exact s_Tw_operand_b76 P W x1 G
  · exact s_Tw_operand_b83 P W x1 G
  · exact s_Tw_operand_b108 P W x1 G
  · exact s_Tw_operand_b108 P W x1 G
  · exact s_Tw_operand_b138 P W x1 G
  · refine r_to [1] [(1, aI x1)] rfl ?_
    exact s_Tw_operand_b435 P W x1 G
  · exact s_Tw_operand_b146 P W x1 G
  · refine r_to [1] [(1, aI x1)] rfl ?_
    exact s_Tw_operand_b435 P W x1 G
  · exact s_Tw_operand_b154 P W x1 G
  · exact s_Tw_operand_b209 P W x1 G
  · exact s_Tw_operand_b246 P W x1 G
  · exact s_Tw_operand_b321 P W x1 G
  · exact s_Tw_operand_b334 P W x1 G
  · exact s_Tw_operand_b342 P W x1 G
  · refine r_to [1] [(1, aI x1)] rfl ?_
    exact s_Tw_operand_b435 P W x1 G
theorem c_Tw_operand (P W : Int) (x1 : Int) (G : St) : MG (MTw_operand P W) [aR 100, aI x1] G (Tw_operand P W x1 G) := MG.of plX15 (Nat.le_of_ble_eq_true rfl) (s_Tw_operand P W x1 G)
theorem s_Tw_bringVars_s21 (P W : Int) (x1 : Int) (x2 : Int) (X2 : Int × St → Option (Int × St)) (hX2 : ∀ s, So (MTw_bringVars P W) 2 [(0, aR 100), (1, aR x1), (2, aI x2), (3, aI (s.1))] [] s.2 (X2 s)) (x3 : Int) (X21 : Int × St → Option (Int × St)) (hX21 : ∀ s, So (MTw_bringVars P W) 21 [(0, aR 100), (1, aR x1), (2, aI x2), (3, aI x3), (4, aI (s.1))] [] s.2 (X21 s)) (x4 : Int) (G : St) : SS (MTw_bringVars P W) (lk X21 (lk X2 some)) 21 [(0, aR 100), (1, aR x1), (2, aI x2), (3, aI x3), (4, aI x4)] [] G (Tw_bringVars_s21 x1 x2 x3 x4 G) := by
  refine r_iload 23 4 dX15_bringVars_21 rfl rfl ?_
  refine r_bipush 25 32 dX15_bringVars_23 rfl rfl ?_
  refine r_aload_n 26 0 dX15_bringVars_25 rfl rfl rfl ?_
  refine r_get 29 (aR 199) dX15_bringVars_26 fkX15_191 (fun _ => dsT_100 P W _) nn100 rfl rfl ?_
  refine r_iload_n 30 3 dX15_bringVars_29 rfl rfl rfl ?_
  refine r_iald 31 dX15_bringVars_30 (fun _ _ _ => dsT_199 P W _) (fun _ _ => nn199) rfl ?_
  refine r_aload_n 32 0 dX15_bringVars_31 rfl rfl rfl ?_
  refine r_get 35 (aR 200) dX15_bringVars_32 fkX15_194 (fun _ => dsT_100 P W _) nn100 rfl rfl ?_
  refine r_iload_n 36 3 dX15_bringVars_35 rfl rfl rfl ?_
  refine r_iald 37 dX15_bringVars_36 (fun _ _ _ => dsT_200 P W _) (fun _ _ => nn200) rfl ?_
  refine r_iadd 38 dX15_bringVars_37 rfl ?_
  refine r_imul 39 dX15_bringVars_38 rfl ?_
  refine r_icmp_ge 65 42 dX15_bringVars_39 rfl rfl ?_ ?_
  · refine SS.ex ?_
    refine r_iinc 68 [(3, aI (x3 + 1)), (0, aR 100), (1, aR x1), (2, aI x2), (4, aI x4)] 3 dX15_bringVars_65 rfl rfl rfl rfl ?_
    refine r_goto 2 dX15_bringVars_68 rfl ?_
    refine r_to [1, 2, 3, 0] [(0, aR 100), (1, aR x1), (2, aI x2), (3, aI (x3 + 1))] rfl ?_
    exact SS.back (hX2 (x3 + 1, G))
  · refine r_aload_n 43 0 dX15_bringVars_42 rfl rfl rfl ?_
    refine r_get 46 (aR 197) dX15_bringVars_43 fkX15_188 (fun _ => dsT_100 P W _) nn100 rfl rfl ?_
    refine r_iload 48 4 dX15_bringVars_46 rfl rfl ?_
    refine r_aload_n 49 1 dX15_bringVars_48 rfl rfl rfl ?_
    refine r_sipush 52 8192 dX15_bringVars_49 rfl rfl ?_
    refine r_iload_n 53 2 dX15_bringVars_52 rfl rfl rfl ?_
    refine r_imul 54 dX15_bringVars_53 rfl ?_
    refine r_iload 56 4 dX15_bringVars_54 rfl rfl ?_
    refine r_iadd 57 dX15_bringVars_56 rfl ?_
    refine r_iald 58 dX15_bringVars_57 (fun h h0 h1 => ialT_c P W h (Int.lt_of_le_of_lt h0 h1)) (fun h0 h1 => ialT_n (Int.lt_of_le_of_lt h0 h1)) rfl ?_
    refine r_iast 59 dX15_bringVars_58 (fun _ _ _ => dsT_197 P W _) (fun _ _ => nn197) rfl ?_
    refine ss_tk (fun G1 => ?_)
    refine r_iinc 62 [(4, aI (x4 + 1)), (0, aR 100), (1, aR x1), (2, aI x2), (3, aI x3)] 4 dX15_bringVars_59 rfl rfl rfl rfl ?_
    refine r_goto 21 dX15_bringVars_62 rfl ?_
    refine r_to [1, 2, 3, 4, 0] [(0, aR 100), (1, aR x1), (2, aI x2), (3, aI x3), (4, aI (x4 + 1))] rfl ?_
    exact SS.back (hX21 (x4 + 1, G1))
theorem sl_Tw_bringVars_21 (P W : Int) (x1 : Int) (x2 : Int) (X2 : Int × St → Option (Int × St)) (hX2 : ∀ s, So (MTw_bringVars P W) 2 [(0, aR 100), (1, aR x1), (2, aI x2), (3, aI (s.1))] [] s.2 (X2 s)) (x3 : Int) (x4 : Int) (G : St) : SS (MTw_bringVars P W) (lk X2 some) 21 [(0, aR 100), (1, aR x1), (2, aI x2), (3, aI x3), (4, aI x4)] [] G (Tw_bringVars_l21 x1 x2 x3 x4 G) := by
  exact SS.loop (σ := Int × St) (fun s => [(0, aR 100), (1, aR x1), (2, aI x2), (3, aI x3), (4, aI (s.1))]) (fun s => s.2) (fun s => Tw_bringVars_s21 x1 x2 x3 s.1 s.2) (fun X21 hX21 s => s_Tw_bringVars_s21 P W x1 x2 X2 hX2 x3  X21 hX21 s.1 s.2) (x4, G)
theorem s_Tw_bringVars_s2 (P W : Int) (x1 : Int) (x2 : Int) (X2 : Int × St → Option (Int × St)) (hX2 : ∀ s, So (MTw_bringVars P W) 2 [(0, aR 100), (1, aR x1), (2, aI x2), (3, aI (s.1))] [] s.2 (X2 s)) (x3 : Int) (G : St) : SS (MTw_bringVars P W) (lk X2 some) 2 [(0, aR 100), (1, aR x1), (2, aI x2), (3, aI x3)] [] G (Tw_bringVars_s2 x1 x2 x3 G) := by
  refine r_iload_n 3 3 dX15_bringVars_2 rfl rfl rfl ?_
  refine r_aload_n 4 0 dX15_bringVars_3 rfl rfl rfl ?_
  refine r_get 7 (aI (G 100 97)) dX15_bringVars_4 fkX15_675 (fun _ => dsT_100 P W _) nn100 rfl rfl ?_
  refine r_icmp_ge 71 10 dX15_bringVars_7 rfl rfl ?_ ?_
  · refine SS.ex ?_
    exact r_return dX15_bringVars_71 rfl
  · refine r_bipush 12 32 dX15_bringVars_10 rfl rfl ?_
    refine r_aload_n 13 0 dX15_bringVars_12 rfl rfl rfl ?_
    refine r_get 16 (aR 199) dX15_bringVars_13 fkX15_191 (fun _ => dsT_100 P W _) nn100 rfl rfl ?_
    refine r_iload_n 17 3 dX15_bringVars_16 rfl rfl rfl ?_
    refine r_iald 18 dX15_bringVars_17 (fun _ _ _ => dsT_199 P W _) (fun _ _ => nn199) rfl ?_
    refine r_imul 19 dX15_bringVars_18 rfl ?_
    refine r_istore 21 [(4, aI (32 * (G 199 x3))), (0, aR 100), (1, aR x1), (2, aI x2), (3, aI x3)] dX15_bringVars_19 rfl rfl rfl ?_
    refine r_to [1, 2, 3, 4, 0] [(0, aR 100), (1, aR x1), (2, aI x2), (3, aI x3), (4, aI (32 * (G 199 x3)))] rfl ?_
    exact sl_Tw_bringVars_21 P W x1 x2 X2 hX2 x3 (32 * (G 199 x3)) G
theorem sl_Tw_bringVars_2 (P W : Int) (x1 : Int) (x2 : Int) (x3 : Int) (G : St) : SS (MTw_bringVars P W) some 2 [(0, aR 100), (1, aR x1), (2, aI x2), (3, aI x3)] [] G (Tw_bringVars_l2 x1 x2 x3 G) := by
  exact SS.loop (σ := Int × St) (fun s => [(0, aR 100), (1, aR x1), (2, aI x2), (3, aI (s.1))]) (fun s => s.2) (fun s => Tw_bringVars_s2 x1 x2 s.1 s.2) (fun X2 hX2 s => s_Tw_bringVars_s2 P W x1 x2  X2 hX2 s.1 s.2) (x3, G)
theorem s_Tw_bringVars (P W : Int) (x1 : Int) (x2 : Int) (G : St) : SS (MTw_bringVars P W) some 0 [(0, aR 100), (1, aR x1), (2, aI x2)] [] G (Tw_bringVars x1 x2 G) := by
  refine r_iconst 1 0 dX15_bringVars_0 rfl rfl ?_
  refine r_istore_n 2 [(3, aI 0), (0, aR 100), (1, aR x1), (2, aI x2)] dX15_bringVars_1 rfl rfl rfl rfl ?_
  refine r_to [1, 2, 3, 0] [(0, aR 100), (1, aR x1), (2, aI x2), (3, aI 0)] rfl ?_
  exact sl_Tw_bringVars_2 P W x1 x2 0 G
theorem c_Tw_bringVars (P W : Int) (x1 : Int) (x2 : Int) (G : St) : MG (MTw_bringVars P W) [aR 100, aR x1, aI x2] G (Tw_bringVars x1 x2 G) := MG.of plX15 (Nat.le_of_ble_eq_true rfl) (s_Tw_bringVars P W x1 x2 G)
theorem s_Tw_keepVars_s21 (P W : Int) (x1 : Int) (x2 : Int) (X2 : Int × St → Option (Int × St)) (hX2 : ∀ s, So (MTw_keepVars P W) 2 [(0, aR 100), (1, aR x1), (2, aI x2), (3, aI (s.1))] [] s.2 (X2 s)) (x3 : Int) (X21 : Int × St → Option (Int × St)) (hX21 : ∀ s, So (MTw_keepVars P W) 21 [(0, aR 100), (1, aR x1), (2, aI x2), (3, aI x3), (4, aI (s.1))] [] s.2 (X21 s)) (x4 : Int) (G : St) : SS (MTw_keepVars P W) (lk X21 (lk X2 some)) 21 [(0, aR 100), (1, aR x1), (2, aI x2), (3, aI x3), (4, aI x4)] [] G (Tw_keepVars_s21 x1 x2 x3 x4 G) := by
  refine r_iload 23 4 dX15_keepVars_21 rfl rfl ?_
  refine r_bipush 25 32 dX15_keepVars_23 rfl rfl ?_
  refine r_aload_n 26 0 dX15_keepVars_25 rfl rfl rfl ?_
  refine r_get 29 (aR 199) dX15_keepVars_26 fkX15_191 (fun _ => dsT_100 P W _) nn100 rfl rfl ?_
  refine r_iload_n 30 3 dX15_keepVars_29 rfl rfl rfl ?_
  refine r_iald 31 dX15_keepVars_30 (fun _ _ _ => dsT_199 P W _) (fun _ _ => nn199) rfl ?_
  refine r_aload_n 32 0 dX15_keepVars_31 rfl rfl rfl ?_
  refine r_get 35 (aR 200) dX15_keepVars_32 fkX15_194 (fun _ => dsT_100 P W _) nn100 rfl rfl ?_
  refine r_iload_n 36 3 dX15_keepVars_35 rfl rfl rfl ?_
  refine r_iald 37 dX15_keepVars_36 (fun _ _ _ => dsT_200 P W _) (fun _ _ => nn200) rfl ?_
  refine r_iadd 38 dX15_keepVars_37 rfl ?_
  refine r_imul 39 dX15_keepVars_38 rfl ?_
  refine r_icmp_ge 65 42 dX15_keepVars_39 rfl rfl ?_ ?_
  · refine SS.ex ?_
    refine r_iinc 68 [(3, aI (x3 + 1)), (0, aR 100), (1, aR x1), (2, aI x2), (4, aI x4)] 3 dX15_keepVars_65 rfl rfl rfl rfl ?_
    refine r_goto 2 dX15_keepVars_68 rfl ?_
    refine r_to [1, 2, 3, 0] [(0, aR 100), (1, aR x1), (2, aI x2), (3, aI (x3 + 1))] rfl ?_
    exact SS.back (hX2 (x3 + 1, G))
  · refine r_aload_n 43 1 dX15_keepVars_42 rfl rfl rfl ?_
    refine r_sipush 46 8192 dX15_keepVars_43 rfl rfl ?_
    refine r_iload_n 47 2 dX15_keepVars_46 rfl rfl rfl ?_
    refine r_imul 48 dX15_keepVars_47 rfl ?_
    refine r_iload 50 4 dX15_keepVars_48 rfl rfl ?_
    refine r_iadd 51 dX15_keepVars_50 rfl ?_
    refine r_aload_n 52 0 dX15_keepVars_51 rfl rfl rfl ?_
    refine r_get 55 (aR 197) dX15_keepVars_52 fkX15_188 (fun _ => dsT_100 P W _) nn100 rfl rfl ?_
    refine r_iload 57 4 dX15_keepVars_55 rfl rfl ?_
    refine r_iald 58 dX15_keepVars_57 (fun _ _ _ => dsT_197 P W _) (fun _ _ => nn197) rfl ?_
    refine r_iast 59 dX15_keepVars_58 (fun h h0 h1 => ialT_c P W h (Int.lt_of_le_of_lt h0 h1)) (fun h0 h1 => ialT_n (Int.lt_of_le_of_lt h0 h1)) rfl ?_
    refine ss_tk (fun G1 => ?_)
    refine r_iinc 62 [(4, aI (x4 + 1)), (0, aR 100), (1, aR x1), (2, aI x2), (3, aI x3)] 4 dX15_keepVars_59 rfl rfl rfl rfl ?_
    refine r_goto 21 dX15_keepVars_62 rfl ?_
    refine r_to [1, 2, 3, 4, 0] [(0, aR 100), (1, aR x1), (2, aI x2), (3, aI x3), (4, aI (x4 + 1))] rfl ?_
    exact SS.back (hX21 (x4 + 1, G1))
theorem sl_Tw_keepVars_21 (P W : Int) (x1 : Int) (x2 : Int) (X2 : Int × St → Option (Int × St)) (hX2 : ∀ s, So (MTw_keepVars P W) 2 [(0, aR 100), (1, aR x1), (2, aI x2), (3, aI (s.1))] [] s.2 (X2 s)) (x3 : Int) (x4 : Int) (G : St) : SS (MTw_keepVars P W) (lk X2 some) 21 [(0, aR 100), (1, aR x1), (2, aI x2), (3, aI x3), (4, aI x4)] [] G (Tw_keepVars_l21 x1 x2 x3 x4 G) := by
  exact SS.loop (σ := Int × St) (fun s => [(0, aR 100), (1, aR x1), (2, aI x2), (3, aI x3), (4, aI (s.1))]) (fun s => s.2) (fun s => Tw_keepVars_s21 x1 x2 x3 s.1 s.2) (fun X21 hX21 s => s_Tw_keepVars_s21 P W x1 x2 X2 hX2 x3  X21 hX21 s.1 s.2) (x4, G)
theorem s_Tw_keepVars_s2 (P W : Int) (x1 : Int) (x2 : Int) (X2 : Int × St → Option (Int × St)) (hX2 : ∀ s, So (MTw_keepVars P W) 2 [(0, aR 100), (1, aR x1), (2, aI x2), (3, aI (s.1))] [] s.2 (X2 s)) (x3 : Int) (G : St) : SS (MTw_keepVars P W) (lk X2 some) 2 [(0, aR 100), (1, aR x1), (2, aI x2), (3, aI x3)] [] G (Tw_keepVars_s2 x1 x2 x3 G) := by
  refine r_iload_n 3 3 dX15_keepVars_2 rfl rfl rfl ?_
  refine r_aload_n 4 0 dX15_keepVars_3 rfl rfl rfl ?_
  refine r_get 7 (aI (G 100 97)) dX15_keepVars_4 fkX15_675 (fun _ => dsT_100 P W _) nn100 rfl rfl ?_
  refine r_icmp_ge 71 10 dX15_keepVars_7 rfl rfl ?_ ?_
  · refine SS.ex ?_
    exact r_return dX15_keepVars_71 rfl
  · refine r_bipush 12 32 dX15_keepVars_10 rfl rfl ?_
    refine r_aload_n 13 0 dX15_keepVars_12 rfl rfl rfl ?_
    refine r_get 16 (aR 199) dX15_keepVars_13 fkX15_191 (fun _ => dsT_100 P W _) nn100 rfl rfl ?_
    refine r_iload_n 17 3 dX15_keepVars_16 rfl rfl rfl ?_
    refine r_iald 18 dX15_keepVars_17 (fun _ _ _ => dsT_199 P W _) (fun _ _ => nn199) rfl ?_
    refine r_imul 19 dX15_keepVars_18 rfl ?_
    refine r_istore 21 [(4, aI (32 * (G 199 x3))), (0, aR 100), (1, aR x1), (2, aI x2), (3, aI x3)] dX15_keepVars_19 rfl rfl rfl ?_
    refine r_to [1, 2, 3, 4, 0] [(0, aR 100), (1, aR x1), (2, aI x2), (3, aI x3), (4, aI (32 * (G 199 x3)))] rfl ?_
    exact sl_Tw_keepVars_21 P W x1 x2 X2 hX2 x3 (32 * (G 199 x3)) G
theorem sl_Tw_keepVars_2 (P W : Int) (x1 : Int) (x2 : Int) (x3 : Int) (G : St) : SS (MTw_keepVars P W) some 2 [(0, aR 100), (1, aR x1), (2, aI x2), (3, aI x3)] [] G (Tw_keepVars_l2 x1 x2 x3 G) := by
  exact SS.loop (σ := Int × St) (fun s => [(0, aR 100), (1, aR x1), (2, aI x2), (3, aI (s.1))]) (fun s => s.2) (fun s => Tw_keepVars_s2 x1 x2 s.1 s.2) (fun X2 hX2 s => s_Tw_keepVars_s2 P W x1 x2  X2 hX2 s.1 s.2) (x3, G)
theorem s_Tw_keepVars (P W : Int) (x1 : Int) (x2 : Int) (G : St) : SS (MTw_keepVars P W) some 0 [(0, aR 100), (1, aR x1), (2, aI x2)] [] G (Tw_keepVars x1 x2 G) := by
  refine r_iconst 1 0 dX15_keepVars_0 rfl rfl ?_
  refine r_istore_n 2 [(3, aI 0), (0, aR 100), (1, aR x1), (2, aI x2)] dX15_keepVars_1 rfl rfl rfl rfl ?_
  refine r_to [1, 2, 3, 0] [(0, aR 100), (1, aR x1), (2, aI x2), (3, aI 0)] rfl ?_
  exact sl_Tw_keepVars_2 P W x1 x2 0 G
theorem c_Tw_keepVars (P W : Int) (x1 : Int) (x2 : Int) (G : St) : MG (MTw_keepVars P W) [aR 100, aR x1, aI x2] G (Tw_keepVars x1 x2 G) := MG.of plX15 (Nat.le_of_ble_eq_true rfl) (s_Tw_keepVars P W x1 x2 G)
theorem s_Tw_endOfIf_s89 (P W : Int) (x1 : Int) (X54 : Int × St → Option (Int × St)) (hX54 : ∀ s, So (MTw_endOfIf P W) 54 [(0, aR 100), (1, aI x1), (2, aI (s.1))] [] s.2 (X54 s)) (x2 : Int) (X69 : Int × St → Option (Int × St)) (hX69 : ∀ s, So (MTw_endOfIf P W) 69 [(0, aR 100), (1, aI x1), (2, aI x2), (3, aI (s.1))] [] s.2 (X69 s)) (x3 : Int) (X89 : Int × St → Option (Int × St)) (hX89 : ∀ s, So (MTw_endOfIf P W) 89 [(0, aR 100), (1, aI x1), (2, aI x2), (3, aI x3), (4, aI (s.1))] [] s.2 (X89 s)) (x4 : Int) (G : St) : SS (MTw_endOfIf P W) (lk X89 (lk X69 (lk X54 some))) 89 [(0, aR 100), (1, aI x1), (2, aI x2), (3, aI x3), (4, aI x4)] [] G (Tw_endOfIf_s89 x1 x2 x3 x4 G) := by
  refine r_iload 91 4 dX15_endOfIf_89 rfl rfl ?_
  refine r_aload_n 92 0 dX15_endOfIf_91 rfl rfl rfl ?_
  refine r_get 95 (aR 201) dX15_endOfIf_92 fkX15_197 (fun _ => dsT_100 P W _) nn100 rfl rfl ?_
  refine r_iload_n 96 2 dX15_endOfIf_95 rfl rfl rfl ?_
  refine r_iald 97 dX15_endOfIf_96 (fun _ _ _ => dsT_201 P W _) (fun _ _ => nn201) rfl ?_
  refine r_icmp_ge 158 100 dX15_endOfIf_97 rfl rfl ?_ ?_
  · refine SS.ex ?_
    refine r_iinc 161 [(3, aI (x3 + 1)), (0, aR 100), (1, aI x1), (2, aI x2), (4, aI x4)] 3 dX15_endOfIf_158 rfl rfl rfl rfl ?_
    refine r_goto 69 dX15_endOfIf_161 rfl ?_
    refine r_to [1, 2, 3, 0] [(0, aR 100), (1, aI x1), (2, aI x2), (3, aI (x3 + 1))] rfl ?_
    exact SS.back (hX69 (x3 + 1, G))
  · refine r_aload_n 101 0 dX15_endOfIf_100 rfl rfl rfl ?_
    refine r_get 104 (aR 197) dX15_endOfIf_101 fkX15_188 (fun _ => dsT_100 P W _) nn100 rfl rfl ?_
    refine r_bipush 106 32 dX15_endOfIf_104 rfl rfl ?_
    refine r_iload_n 107 3 dX15_endOfIf_106 rfl rfl rfl ?_
    refine r_imul 108 dX15_endOfIf_107 rfl ?_
    refine r_iload 110 4 dX15_endOfIf_108 rfl rfl ?_
    refine r_iadd 111 dX15_endOfIf_110 rfl ?_
    refine r_aload_n 112 0 dX15_endOfIf_111 rfl rfl rfl ?_
    refine r_aload_n 113 0 dX15_endOfIf_112 rfl rfl rfl ?_
    refine r_get 116 (aR 203) dX15_endOfIf_113 fkX15_200 (fun _ => dsT_100 P W _) nn100 rfl rfl ?_
    refine r_iload_n 117 1 dX15_endOfIf_116 rfl rfl rfl ?_
    refine r_iald 118 dX15_endOfIf_117 (fun _ _ _ => dsT_203 P W _) (fun _ _ => nn203) rfl ?_
    refine r_aload_n 119 0 dX15_endOfIf_118 rfl rfl rfl ?_
    refine r_get 122 (aR 207) dX15_endOfIf_119 fkX15_213 (fun _ => dsT_100 P W _) nn100 rfl rfl ?_
    refine r_sipush 125 8192 dX15_endOfIf_122 rfl rfl ?_
    refine r_iload_n 126 1 dX15_endOfIf_125 rfl rfl rfl ?_
    refine r_imul 127 dX15_endOfIf_126 rfl ?_
    refine r_bipush 129 32 dX15_endOfIf_127 rfl rfl ?_
    refine r_iload_n 130 3 dX15_endOfIf_129 rfl rfl rfl ?_
    refine r_imul 131 dX15_endOfIf_130 rfl ?_
    refine r_iadd 132 dX15_endOfIf_131 rfl ?_
    refine r_iload 134 4 dX15_endOfIf_132 rfl rfl ?_
    refine r_iadd 135 dX15_endOfIf_134 rfl ?_
    refine r_iald 136 dX15_endOfIf_135 (fun _ _ _ => dsT_207 P W _) (fun _ _ => nn207) rfl ?_
    refine r_aload_n 137 0 dX15_endOfIf_136 rfl rfl rfl ?_
    refine r_get 140 (aR 197) dX15_endOfIf_137 fkX15_188 (fun _ => dsT_100 P W _) nn100 rfl rfl ?_
    refine r_bipush 142 32 dX15_endOfIf_140 rfl rfl ?_
    refine r_iload_n 143 3 dX15_endOfIf_142 rfl rfl rfl ?_
    refine r_imul 144 dX15_endOfIf_143 rfl ?_
    refine r_iload 146 4 dX15_endOfIf_144 rfl rfl ?_
    refine r_iadd 147 dX15_endOfIf_146 rfl ?_
    refine r_iald 148 dX15_endOfIf_147 (fun _ _ _ => dsT_197 P W _) (fun _ _ => nn197) rfl ?_
    refine r_callvI 151 (Mc := MTw_mux P W) (o := 100) (as := [aI (G 203 x1), aI (G 207 (((8192 * x1) + (32 * x3)) + x4)), aI (G 197 ((32 * x3) + x4))]) (st := [aI ((32 * x3) + x4), aR 197]) dX15_endOfIf_148 rfl (c_Tw_mux P W (G 203 x1) (G 207 (((8192 * x1) + (32 * x3)) + x4)) (G 197 ((32 * x3) + x4)) G) lkX15_655 (cmTw_mux P W) rfl rfl rfl (fun _ => dsT_100 P W _) nn100 rfl (Nat.le_of_ble_eq_true rfl) (Nat.le_of_ble_eq_true rfl) (fun _ => rfl) rfl (fun z3 G4 => ?_)
    refine r_iast 152 dX15_endOfIf_151 (fun _ _ _ => dsT_197 P W _) (fun _ _ => nn197) rfl ?_
    refine ss_tk (fun G5 => ?_)
    refine r_iinc 155 [(4, aI (x4 + 1)), (0, aR 100), (1, aI x1), (2, aI x2), (3, aI x3)] 4 dX15_endOfIf_152 rfl rfl rfl rfl ?_
    refine r_goto 89 dX15_endOfIf_155 rfl ?_
    refine r_to [1, 2, 3, 4, 0] [(0, aR 100), (1, aI x1), (2, aI x2), (3, aI x3), (4, aI (x4 + 1))] rfl ?_
    exact SS.back (hX89 (x4 + 1, G5))
theorem sl_Tw_endOfIf_89 (P W : Int) (x1 : Int) (X54 : Int × St → Option (Int × St)) (hX54 : ∀ s, So (MTw_endOfIf P W) 54 [(0, aR 100), (1, aI x1), (2, aI (s.1))] [] s.2 (X54 s)) (x2 : Int) (X69 : Int × St → Option (Int × St)) (hX69 : ∀ s, So (MTw_endOfIf P W) 69 [(0, aR 100), (1, aI x1), (2, aI x2), (3, aI (s.1))] [] s.2 (X69 s)) (x3 : Int) (x4 : Int) (G : St) : SS (MTw_endOfIf P W) (lk X69 (lk X54 some)) 89 [(0, aR 100), (1, aI x1), (2, aI x2), (3, aI x3), (4, aI x4)] [] G (Tw_endOfIf_l89 x1 x2 x3 x4 G) := by
  exact SS.loop (σ := Int × St) (fun s => [(0, aR 100), (1, aI x1), (2, aI x2), (3, aI x3), (4, aI (s.1))]) (fun s => s.2) (fun s => Tw_endOfIf_s89 x1 x2 x3 s.1 s.2) (fun X89 hX89 s => s_Tw_endOfIf_s89 P W x1 X54 hX54 x2 X69 hX69 x3  X89 hX89 s.1 s.2) (x4, G)
theorem s_Tw_endOfIf_s69 (P W : Int) (x1 : Int) (X54 : Int × St → Option (Int × St)) (hX54 : ∀ s, So (MTw_endOfIf P W) 54 [(0, aR 100), (1, aI x1), (2, aI (s.1))] [] s.2 (X54 s)) (x2 : Int) (X69 : Int × St → Option (Int × St)) (hX69 : ∀ s, So (MTw_endOfIf P W) 69 [(0, aR 100), (1, aI x1), (2, aI x2), (3, aI (s.1))] [] s.2 (X69 s)) (x3 : Int) (G : St) : SS (MTw_endOfIf P W) (lk X69 (lk X54 some)) 69 [(0, aR 100), (1, aI x1), (2, aI x2), (3, aI x3)] [] G (Tw_endOfIf_s69 x1 x2 x3 G) := by
  refine r_iload_n 70 3 dX15_endOfIf_69 rfl rfl rfl ?_
  refine r_aload_n 71 0 dX15_endOfIf_70 rfl rfl rfl ?_
  refine r_get 74 (aR 199) dX15_endOfIf_71 fkX15_191 (fun _ => dsT_100 P W _) nn100 rfl rfl ?_
  refine r_iload_n 75 2 dX15_endOfIf_74 rfl rfl rfl ?_
  refine r_iald 76 dX15_endOfIf_75 (fun _ _ _ => dsT_199 P W _) (fun _ _ => nn199) rfl ?_
  refine r_aload_n 77 0 dX15_endOfIf_76 rfl rfl rfl ?_
  refine r_get 80 (aR 200) dX15_endOfIf_77 fkX15_194 (fun _ => dsT_100 P W _) nn100 rfl rfl ?_
  refine r_iload_n 81 2 dX15_endOfIf_80 rfl rfl rfl ?_
  refine r_iald 82 dX15_endOfIf_81 (fun _ _ _ => dsT_200 P W _) (fun _ _ => nn200) rfl ?_
  refine r_iadd 83 dX15_endOfIf_82 rfl ?_
  refine r_icmp_ge 164 86 dX15_endOfIf_83 rfl rfl ?_ ?_
  · refine SS.ex ?_
    refine r_iinc 167 [(2, aI (x2 + 1)), (0, aR 100), (1, aI x1), (3, aI x3)] 2 dX15_endOfIf_164 rfl rfl rfl rfl ?_
    refine r_goto 54 dX15_endOfIf_167 rfl ?_
    refine r_to [1, 2, 0] [(0, aR 100), (1, aI x1), (2, aI (x2 + 1))] rfl ?_
    exact SS.back (hX54 (x2 + 1, G))
  · refine r_iconst 87 0 dX15_endOfIf_86 rfl rfl ?_
    refine r_istore 89 [(4, aI 0), (0, aR 100), (1, aI x1), (2, aI x2), (3, aI x3)] dX15_endOfIf_87 rfl rfl rfl ?_
    refine r_to [1, 2, 3, 4, 0] [(0, aR 100), (1, aI x1), (2, aI x2), (3, aI x3), (4, aI 0)] rfl ?_
    exact sl_Tw_endOfIf_89 P W x1 X54 hX54 x2 X69 hX69 x3 0 G
theorem sl_Tw_endOfIf_69 (P W : Int) (x1 : Int) (X54 : Int × St → Option (Int × St)) (hX54 : ∀ s, So (MTw_endOfIf P W) 54 [(0, aR 100), (1, aI x1), (2, aI (s.1))] [] s.2 (X54 s)) (x2 : Int) (x3 : Int) (G : St) : SS (MTw_endOfIf P W) (lk X54 some) 69 [(0, aR 100), (1, aI x1), (2, aI x2), (3, aI x3)] [] G (Tw_endOfIf_l69 x1 x2 x3 G) := by
  exact SS.loop (σ := Int × St) (fun s => [(0, aR 100), (1, aI x1), (2, aI x2), (3, aI (s.1))]) (fun s => s.2) (fun s => Tw_endOfIf_s69 x1 x2 s.1 s.2) (fun X69 hX69 s => s_Tw_endOfIf_s69 P W x1 X54 hX54 x2  X69 hX69 s.1 s.2) (x3, G)
theorem s_Tw_endOfIf_s54 (P W : Int) (x1 : Int) (X54 : Int × St → Option (Int × St)) (hX54 : ∀ s, So (MTw_endOfIf P W) 54 [(0, aR 100), (1, aI x1), (2, aI (s.1))] [] s.2 (X54 s)) (x2 : Int) (G : St) : SS (MTw_endOfIf P W) (lk X54 some) 54 [(0, aR 100), (1, aI x1), (2, aI x2)] [] G (Tw_endOfIf_s54 x1 x2 G) := by
  refine r_iload_n 55 2 dX15_endOfIf_54 rfl rfl rfl ?_
  refine r_aload_n 56 0 dX15_endOfIf_55 rfl rfl rfl ?_
  refine r_get 59 (aI (G 100 97)) dX15_endOfIf_56 fkX15_675 (fun _ => dsT_100 P W _) nn100 rfl rfl ?_
  refine r_icmp_ge 170 62 dX15_endOfIf_59 rfl rfl ?_ ?_
  · refine SS.ex ?_
    exact r_return dX15_endOfIf_170 rfl
  · refine r_aload_n 63 0 dX15_endOfIf_62 rfl rfl rfl ?_
    refine r_get 66 (aR 199) dX15_endOfIf_63 fkX15_191 (fun _ => dsT_100 P W _) nn100 rfl rfl ?_
    refine r_iload_n 67 2 dX15_endOfIf_66 rfl rfl rfl ?_
    refine r_iald 68 dX15_endOfIf_67 (fun _ _ _ => dsT_199 P W _) (fun _ _ => nn199) rfl ?_
    refine r_istore_n 69 [(3, aI (G 199 x2)), (0, aR 100), (1, aI x1), (2, aI x2)] dX15_endOfIf_68 rfl rfl rfl rfl ?_
    refine r_to [1, 2, 3, 0] [(0, aR 100), (1, aI x1), (2, aI x2), (3, aI (G 199 x2))] rfl ?_
    exact sl_Tw_endOfIf_69 P W x1 X54 hX54 x2 (G 199 x2) G
theorem sl_Tw_endOfIf_54 (P W : Int) (x1 : Int) (x2 : Int) (G : St) : SS (MTw_endOfIf P W) some 54 [(0, aR 100), (1, aI x1), (2, aI x2)] [] G (Tw_endOfIf_l54 x1 x2 G) := by
  exact SS.loop (σ := Int × St) (fun s => [(0, aR 100), (1, aI x1), (2, aI (s.1))]) (fun s => s.2) (fun s => Tw_endOfIf_s54 x1 s.1 s.2) (fun X54 hX54 s => s_Tw_endOfIf_s54 P W x1  X54 hX54 s.1 s.2) (x2, G)
theorem s_Tw_endOfIf_b52 (P W : Int) (x1 : Int) (G : St) : SS (MTw_endOfIf P W) some 52 [(0, aR 100), (1, aI x1)] [] G (Tw_endOfIf_b52 x1 G) := by
  refine r_iconst 53 0 dX15_endOfIf_52 rfl rfl ?_
  refine r_istore_n 54 [(2, aI 0), (0, aR 100), (1, aI x1)] dX15_endOfIf_53 rfl rfl rfl rfl ?_
  refine r_to [1, 2, 0] [(0, aR 100), (1, aI x1), (2, aI 0)] rfl ?_
  exact sl_Tw_endOfIf_54 P W x1 0 G
theorem s_Tw_endOfIf (P W : Int) (G : St) : SS (MTw_endOfIf P W) some 0 [(0, aR 100)] [] G (Tw_endOfIf G) := by
  refine r_aload_n 1 0 dX15_endOfIf_0 rfl rfl rfl ?_
  refine r_dup 2 dX15_endOfIf_1 rfl rfl ?_
  refine r_get 5 (aI (G 100 101)) dX15_endOfIf_2 fkX15_678 (fun _ => dsT_100 P W _) nn100 rfl rfl ?_
  refine r_iconst 6 1 dX15_endOfIf_5 rfl rfl ?_
  refine r_isub 7 dX15_endOfIf_6 rfl ?_
  refine r_putI 10 dX15_endOfIf_7 fkX15_678 (fun _ => dsT_100 P W _) nn100 rfl rfl ?_
  refine ss_tk (fun G1 => ?_)
  refine r_aload_n 11 0 dX15_endOfIf_10 rfl rfl rfl ?_
  refine r_get 14 (aI (G1 100 101)) dX15_endOfIf_11 fkX15_678 (fun _ => dsT_100 P W _) nn100 rfl rfl ?_
  refine r_istore_n 15 [(1, aI (G1 100 101)), (0, aR 100)] dX15_endOfIf_14 rfl rfl rfl rfl ?_
  refine r_aload_n 16 1 dX15_endOfIf_15 rfl rfl rfl ?_
  refine r_aload_n 17 1 dX15_endOfIf_16 rfl rfl rfl ?_
  refine r_get 20 (aR 204) dX15_endOfIf_17 fkX15_203 (fun _ => dsT_100 P W _) nn100 rfl rfl ?_
  refine r_iload_n 21 0 dX15_endOfIf_20 rfl rfl rfl ?_
  refine r_iald 22 dX15_endOfIf_21 (fun _ _ _ => dsT_204 P W _) (fun _ _ => nn204) rfl ?_
  refine r_putI 25 dX15_endOfIf_22 fkX15_675 (fun _ => dsT_100 P W _) nn100 rfl rfl ?_
  refine ss_tk (fun G2 => ?_)
  refine r_aload_n 26 1 dX15_endOfIf_25 rfl rfl rfl ?_
  refine r_get 29 (aR 205) dX15_endOfIf_26 fkX15_206 (fun _ => dsT_100 P W _) nn100 rfl rfl ?_
  refine r_iload_n 30 0 dX15_endOfIf_29 rfl rfl rfl ?_
  refine r_zald 31 dX15_endOfIf_30 (fun _ _ _ => dsT_205 P W _) (fun _ _ => nn205) rfl ?_
  refine r_if_ne 52 34 dX15_endOfIf_31 rfl rfl ?_ ?_
  · refine r_to [1, 0] [(0, aR 100), (1, aI (G1 100 101))] rfl ?_
    exact s_Tw_endOfIf_b52 P W (G1 100 101) G2
  · refine r_aload_n 35 1 dX15_endOfIf_34 rfl rfl rfl ?_
    refine r_aload_n 36 1 dX15_endOfIf_35 rfl rfl rfl ?_
    refine r_get 39 (aR 207) dX15_endOfIf_36 fkX15_213 (fun _ => dsT_100 P W _) nn100 rfl rfl ?_
    refine r_iload_n 40 0 dX15_endOfIf_39 rfl rfl rfl ?_
    refine r_callvV 43 (Mc := MTw_keepVars P W) (o := 100) (as := [aR 207, aI (G1 100 101)]) (st := []) dX15_endOfIf_40 rfl (c_Tw_keepVars P W 207 (G1 100 101) G2) lkX15_746 (cmTw_keepVars P W) rfl rfl rfl (fun _ => dsT_100 P W _) nn100 rfl (Nat.le_of_ble_eq_true rfl) (Nat.le_of_ble_eq_true rfl) (fun _ => rfl) rfl (fun z6 G7 => ?_)
    refine r_aload_n 44 1 dX15_endOfIf_43 rfl rfl rfl ?_
    refine r_aload_n 45 1 dX15_endOfIf_44 rfl rfl rfl ?_
    refine r_get 48 (aR 206) dX15_endOfIf_45 fkX15_210 (fun _ => dsT_100 P W _) nn100 rfl rfl ?_
    refine r_iload_n 49 0 dX15_endOfIf_48 rfl rfl rfl ?_
    refine r_callvV 52 (Mc := MTw_bringVars P W) (o := 100) (as := [aR 206, aI (G1 100 101)]) (st := []) dX15_endOfIf_49 rfl (c_Tw_bringVars P W 206 (G1 100 101) G7) lkX15_750 (cmTw_bringVars P W) rfl rfl rfl (fun _ => dsT_100 P W _) nn100 rfl (Nat.le_of_ble_eq_true rfl) (Nat.le_of_ble_eq_true rfl) (fun _ => rfl) rfl (fun z8 G9 => ?_)
    refine r_to [1, 0] [(0, aR 100), (1, aI (G1 100 101))] rfl ?_
    exact s_Tw_endOfIf_b52 P W (G1 100 101) G9
theorem c_Tw_endOfIf (P W : Int) (G : St) : MG (MTw_endOfIf P W) [aR 100] G (Tw_endOfIf G) := MG.of plX15 (Nat.le_of_ble_eq_true rfl) (s_Tw_endOfIf P W G)
theorem s_Tw_setElement_s165 (P W : Int) (x1 : Int) (x2 : Int) (x3 : Int) (X143 : Int × St → Option (Int × St)) (hX143 : ∀ s, So (MTw_setElement P W) 143 [(0, aR 100), (1, aI x1), (2, aI x2), (3, aI x3), (4, aI (s.1))] [] s.2 (X143 s)) (x4 : Int) (x5 : Int) (X165 : Int × St → Option (Int × St)) (hX165 : ∀ s, So (MTw_setElement P W) 165 [(0, aR 100), (1, aI x1), (2, aI x2), (3, aI x3), (4, aI x4), (5, aI x5), (6, aI (s.1))] [] s.2 (X165 s)) (x6 : Int) (G : St) : SS (MTw_setElement P W) (lk X165 (lk X143 some)) 165 [(0, aR 100), (1, aI x1), (2, aI x2), (3, aI x3), (4, aI x4), (5, aI x5), (6, aI x6)] [] G (Tw_setElement_s165 P W x1 x2 x3 x4 x5 x6 G) := by
  refine r_iload 167 6 dX15_setElement_165 rfl rfl ?_
  refine r_iload_n 168 2 dX15_setElement_167 rfl rfl rfl ?_
  refine r_icmp_ge 226 171 dX15_setElement_168 rfl rfl ?_ ?_
  · refine SS.ex ?_
    refine r_iinc 229 [(4, aI (x4 + 1)), (0, aR 100), (1, aI x1), (2, aI x2), (3, aI x3), (5, aI x5), (6, aI x6)] 4 dX15_setElement_226 rfl rfl rfl rfl ?_
    refine r_goto 143 dX15_setElement_229 rfl ?_
    refine r_to [1, 2, 3, 4, 0] [(0, aR 100), (1, aI x1), (2, aI x2), (3, aI x3), (4, aI (x4 + 1))] rfl ?_
    exact SS.back (hX143 (x4 + 1, G))
  · refine r_bipush 173 32 dX15_setElement_171 rfl rfl ?_
    refine r_aload_n 174 0 dX15_setElement_173 rfl rfl rfl ?_
    refine r_get 177 (aR 152) dX15_setElement_174 fkX15_99 (fun _ => dsT_100 P W _) nn100 rfl rfl ?_
    refine r_iload_n 178 1 dX15_setElement_177 rfl rfl rfl ?_
    refine r_iald 179 dX15_setElement_178 (fun _ _ _ => dsT_152 P W _) (fun _ _ => nn152) rfl ?_
    refine r_iload 181 4 dX15_setElement_179 rfl rfl ?_
    refine r_iadd 182 dX15_setElement_181 rfl ?_
    refine r_imul 183 dX15_setElement_182 rfl ?_
    refine r_iload 185 6 dX15_setElement_183 rfl rfl ?_
    refine r_iadd 186 dX15_setElement_185 rfl ?_
    refine r_istore 188 [(7, aI ((32 * ((G 152 x1) + x4)) + x6)), (0, aR 100), (1, aI x1), (2, aI x2), (3, aI x3), (4, aI x4), (5, aI x5), (6, aI x6)] dX15_setElement_186 rfl rfl rfl ?_
    refine r_aload_n 189 1 dX15_setElement_188 rfl rfl rfl ?_
    refine r_get 192 (aR 197) dX15_setElement_189 fkX15_188 (fun _ => dsT_100 P W _) nn100 rfl rfl ?_
    refine r_iload 194 0 dX15_setElement_192 rfl rfl ?_
    refine r_aload_n 195 1 dX15_setElement_194 rfl rfl rfl ?_
    refine r_iload 197 6 dX15_setElement_195 rfl rfl ?_
    refine r_aload_n 198 1 dX15_setElement_197 rfl rfl rfl ?_
    refine r_get 201 (aR 185) dX15_setElement_198 fkX15_158 (fun _ => dsT_100 P W _) nn100 rfl rfl ?_
    refine r_bipush 203 32 dX15_setElement_201 rfl rfl ?_
    refine r_iload_n 204 4 dX15_setElement_203 rfl rfl rfl ?_
    refine r_imul 205 dX15_setElement_204 rfl ?_
    refine r_iload 207 7 dX15_setElement_205 rfl rfl ?_
    refine r_iadd 208 dX15_setElement_207 rfl ?_
    refine r_iald 209 dX15_setElement_208 (fun _ _ _ => dsT_185 P W _) (fun _ _ => nn185) rfl ?_
    refine r_aload_n 210 1 dX15_setElement_209 rfl rfl rfl ?_
    refine r_get 213 (aR 197) dX15_setElement_210 fkX15_188 (fun _ => dsT_100 P W _) nn100 rfl rfl ?_
    refine r_iload 215 0 dX15_setElement_213 rfl rfl ?_
    refine r_iald 216 dX15_setElement_215 (fun _ _ _ => dsT_197 P W _) (fun _ _ => nn197) rfl ?_
    refine r_callvI 219 (Mc := MTw_mux P W) (o := 100) (as := [aI x5, aI (G 185 ((32 * x3) + x6)), aI (G 197 ((32 * ((G 152 x1) + x4)) + x6))]) (st := [aI ((32 * ((G 152 x1) + x4)) + x6), aR 197]) dX15_setElement_216 rfl (c_Tw_mux P W x5 (G 185 ((32 * x3) + x6)) (G 197 ((32 * ((G 152 x1) + x4)) + x6)) G) lkX15_655 (cmTw_mux P W) rfl rfl rfl (fun _ => dsT_100 P W _) nn100 rfl (Nat.le_of_ble_eq_true rfl) (Nat.le_of_ble_eq_true rfl) (fun _ => rfl) rfl (fun z6 G7 => ?_)
    refine r_iast 220 dX15_setElement_219 (fun _ _ _ => dsT_197 P W _) (fun _ _ => nn197) rfl ?_
    refine ss_tk (fun G8 => ?_)
    refine r_iinc 223 [(6, aI (x6 + 1)), (7, aI ((32 * ((G 152 x1) + x4)) + x6)), (0, aR 100), (1, aI x1), (2, aI x2), (3, aI x3), (4, aI x4), (5, aI x5)] 7 dX15_setElement_220 rfl rfl rfl rfl ?_
    refine r_goto 165 dX15_setElement_223 rfl ?_
    refine r_to [2, 3, 4, 5, 6, 7, 0] [(0, aR 100), (1, aI x1), (2, aI x2), (3, aI x3), (4, aI x4), (5, aI x5), (6, aI (x6 + 1))] rfl ?_
    exact SS.back (hX165 (x6 + 1, G8))
theorem sl_Tw_setElement_165 (P W : Int) (x1 : Int) (x2 : Int) (x3 : Int) (X143 : Int × St → Option (Int × St)) (hX143 : ∀ s, So (MTw_setElement P W) 143 [(0, aR 100), (1, aI x1), (2, aI x2), (3, aI x3), (4, aI (s.1))] [] s.2 (X143 s)) (x4 : Int) (x5 : Int) (x6 : Int) (G : St) : SS (MTw_setElement P W) (lk X143 some) 165 [(0, aR 100), (1, aI x1), (2, aI x2), (3, aI x3), (4, aI x4), (5, aI x5), (6, aI x6)] [] G (Tw_setElement_l165 P W x1 x2 x3 x4 x5 x6 G) := by
  exact SS.loop (σ := Int × St) (fun s => [(0, aR 100), (1, aI x1), (2, aI x2), (3, aI x3), (4, aI x4), (5, aI x5), (6, aI (s.1))]) (fun s => s.2) (fun s => Tw_setElement_s165 P W x1 x2 x3 x4 x5 s.1 s.2) (fun X165 hX165 s => s_Tw_setElement_s165 P W x1 x2 x3 X143 hX143 x4 x5  X165 hX165 s.1 s.2) (x6, G)
theorem s_Tw_setElement_s143 (P W : Int) (x1 : Int) (x2 : Int) (x3 : Int) (X143 : Int × St → Option (Int × St)) (hX143 : ∀ s, So (MTw_setElement P W) 143 [(0, aR 100), (1, aI x1), (2, aI x2), (3, aI x3), (4, aI (s.1))] [] s.2 (X143 s)) (x4 : Int) (G : St) : SS (MTw_setElement P W) (lk X143 some) 143 [(0, aR 100), (1, aI x1), (2, aI x2), (3, aI x3), (4, aI x4)] [] G (Tw_setElement_s143 P W x1 x2 x3 x4 G) := by
  refine r_iload 145 4 dX15_setElement_143 rfl rfl ?_
  refine r_aload_n 146 0 dX15_setElement_145 rfl rfl rfl ?_
  refine r_get 149 (aR 153) dX15_setElement_146 fkX15_102 (fun _ => dsT_100 P W _) nn100 rfl rfl ?_
  refine r_iload_n 150 1 dX15_setElement_149 rfl rfl rfl ?_
  refine r_iald 151 dX15_setElement_150 (fun _ _ _ => dsT_153 P W _) (fun _ _ => nn153) rfl ?_
  refine r_icmp_ge 232 154 dX15_setElement_151 rfl rfl ?_ ?_
  · refine SS.ex ?_
    refine r_aload_n 233 0 dX15_setElement_232 rfl rfl rfl ?_
    refine r_dup 234 dX15_setElement_233 rfl rfl ?_
    refine r_get 237 (aI (G 100 85)) dX15_setElement_234 fkX15_649 (fun _ => dsT_100 P W _) nn100 rfl rfl ?_
    refine r_iconst 238 2 dX15_setElement_237 rfl rfl ?_
    refine r_isub 239 dX15_setElement_238 rfl ?_
    refine r_putI 242 dX15_setElement_239 fkX15_649 (fun _ => dsT_100 P W _) nn100 rfl rfl ?_
    refine ss_tk (fun G3 => ?_)
    exact r_return dX15_setElement_242 rfl
  · refine r_aload_n 155 0 dX15_setElement_154 rfl rfl rfl ?_
    refine r_iload 157 4 dX15_setElement_155 rfl rfl ?_
    refine r_callvI 160 (Mc := MTw_isIndex P W) (o := 100) (as := [aI x4]) (st := []) dX15_setElement_157 rfl (c_Tw_isIndex P W x4 G) lkX15_731 (cmTw_isIndex P W) rfl rfl rfl (fun _ => dsT_100 P W _) nn100 rfl (Nat.le_of_ble_eq_true rfl) (Nat.le_of_ble_eq_true rfl) (fun _ => rfl) rfl (fun z4 G5 => ?_)
    refine r_istore 162 [(5, aI z4), (0, aR 100), (1, aI x1), (2, aI x2), (3, aI x3), (4, aI x4)] dX15_setElement_160 rfl rfl rfl ?_
    refine r_iconst 163 0 dX15_setElement_162 rfl rfl ?_
    refine r_istore 165 [(6, aI 0), (5, aI z4), (0, aR 100), (1, aI x1), (2, aI x2), (3, aI x3), (4, aI x4)] dX15_setElement_163 rfl rfl rfl ?_
    refine r_to [2, 3, 4, 5, 6, 1, 0] [(0, aR 100), (1, aI x1), (2, aI x2), (3, aI x3), (4, aI x4), (5, aI z4), (6, aI 0)] rfl ?_
    exact sl_Tw_setElement_165 P W x1 x2 x3 X143 hX143 x4 z4 0 G5
theorem sl_Tw_setElement_143 (P W : Int) (x1 : Int) (x2 : Int) (x3 : Int) (x4 : Int) (G : St) : SS (MTw_setElement P W) some 143 [(0, aR 100), (1, aI x1), (2, aI x2), (3, aI x3), (4, aI x4)] [] G (Tw_setElement_l143 P W x1 x2 x3 x4 G) := by
  exact SS.loop (σ := Int × St) (fun s => [(0, aR 100), (1, aI x1), (2, aI x2), (3, aI x3), (4, aI (s.1))]) (fun s => s.2) (fun s => Tw_setElement_s143 P W x1 x2 x3 s.1 s.2) (fun X143 hX143 s => s_Tw_setElement_s143 P W x1 x2 x3  X143 hX143 s.1 s.2) (x4, G)
theorem s_Tw_setElement_s101 (P W : Int) (x1 : Int) (x2 : Int) (x3 : Int) (X101 : Int × St → Option (Int × St)) (hX101 : ∀ s, So (MTw_setElement P W) 101 [(0, aR 100), (1, aI x1), (2, aI x2), (3, aI x3), (4, aI (s.1))] [] s.2 (X101 s)) (x4 : Int) (G : St) : SS (MTw_setElement P W) (lk X101 some) 101 [(0, aR 100), (1, aI x1), (2, aI x2), (3, aI x3), (4, aI x4)] [] G (Tw_setElement_s101 P W x1 x2 x3 x4 G) := by
  refine r_iload 103 4 dX15_setElement_101 rfl rfl ?_
  refine r_aload_n 104 0 dX15_setElement_103 rfl rfl rfl ?_
  refine r_get 107 (aI W) dX15_setElement_104 fkX15_303 (fun _ => dsT_100 P W _) nn100 rfl rfl ?_
  refine r_icmp_ge 140 110 dX15_setElement_107 rfl rfl ?_ ?_
  · refine SS.ex ?_
    refine r_iconst 141 0 dX15_setElement_140 rfl rfl ?_
    refine r_istore 143 [(4, aI 0), (0, aR 100), (1, aI x1), (2, aI x2), (3, aI x3)] dX15_setElement_141 rfl rfl rfl ?_
    refine r_to [1, 2, 3, 4, 0] [(0, aR 100), (1, aI x1), (2, aI x2), (3, aI x3), (4, aI 0)] rfl ?_
    exact sl_Tw_setElement_143 P W x1 x2 x3 0 G
  · refine r_aload_n 111 0 dX15_setElement_110 rfl rfl rfl ?_
    refine r_get 114 (aR 214) dX15_setElement_111 fkX15_231 (fun _ => dsT_100 P W _) nn100 rfl rfl ?_
    refine r_iload 116 4 dX15_setElement_114 rfl rfl ?_
    refine r_aload_n 117 0 dX15_setElement_116 rfl rfl rfl ?_
    refine r_get 120 (aR 185) dX15_setElement_117 fkX15_158 (fun _ => dsT_100 P W _) nn100 rfl rfl ?_
    refine r_bipush 122 32 dX15_setElement_120 rfl rfl ?_
    refine r_aload_n 123 0 dX15_setElement_122 rfl rfl rfl ?_
    refine r_get 126 (aI (G 100 85)) dX15_setElement_123 fkX15_649 (fun _ => dsT_100 P W _) nn100 rfl rfl ?_
    refine r_iconst 127 2 dX15_setElement_126 rfl rfl ?_
    refine r_isub 128 dX15_setElement_127 rfl ?_
    refine r_imul 129 dX15_setElement_128 rfl ?_
    refine r_iload 131 4 dX15_setElement_129 rfl rfl ?_
    refine r_iadd 132 dX15_setElement_131 rfl ?_
    refine r_iald 133 dX15_setElement_132 (fun _ _ _ => dsT_185 P W _) (fun _ _ => nn185) rfl ?_
    refine r_iast 134 dX15_setElement_133 (fun _ _ _ => dsT_214 P W _) (fun _ _ => nn214) rfl ?_
    refine ss_tk (fun G9 => ?_)
    refine r_iinc 137 [(4, aI (x4 + 1)), (0, aR 100), (1, aI x1), (2, aI x2), (3, aI x3)] 4 dX15_setElement_134 rfl rfl rfl rfl ?_
    refine r_goto 101 dX15_setElement_137 rfl ?_
    refine r_to [1, 2, 3, 4, 0] [(0, aR 100), (1, aI x1), (2, aI x2), (3, aI x3), (4, aI (x4 + 1))] rfl ?_
    exact SS.back (hX101 (x4 + 1, G9))
theorem sl_Tw_setElement_101 (P W : Int) (x1 : Int) (x2 : Int) (x3 : Int) (x4 : Int) (G : St) : SS (MTw_setElement P W) some 101 [(0, aR 100), (1, aI x1), (2, aI x2), (3, aI x3), (4, aI x4)] [] G (Tw_setElement_l101 P W x1 x2 x3 x4 G) := by
  exact SS.loop (σ := Int × St) (fun s => [(0, aR 100), (1, aI x1), (2, aI x2), (3, aI x3), (4, aI (s.1))]) (fun s => s.2) (fun s => Tw_setElement_s101 P W x1 x2 x3 s.1 s.2) (fun X101 hX101 s => s_Tw_setElement_s101 P W x1 x2 x3  X101 hX101 s.1 s.2) (x4, G)
theorem s_Tw_setElement_s42 (P W : Int) (x1 : Int) (x2 : Int) (x3 : Int) (x4 : Int) (X42 : Int × St → Option (Int × St)) (hX42 : ∀ s, So (MTw_setElement P W) 42 [(0, aR 100), (1, aI x1), (2, aI x2), (3, aI x3), (4, aL x4), (6, aI (s.1))] [] s.2 (X42 s)) (x6 : Int) (G : St) : SS (MTw_setElement P W) (lk X42 some) 42 [(0, aR 100), (1, aI x1), (2, aI x2), (3, aI x3), (4, aL x4), (6, aI x6)] [] G (Tw_setElement_s42 P W x1 x2 x3 x4 x6 G) := by
  refine r_iload 44 5 dX15_setElement_42 rfl rfl ?_
  refine r_iload_n 45 2 dX15_setElement_44 rfl rfl rfl ?_
  refine r_icmp_ge 87 48 dX15_setElement_45 rfl rfl ?_ ?_
  · refine SS.ex ?_
    refine r_aload_n 88 0 dX15_setElement_87 rfl rfl rfl ?_
    refine r_dup 89 dX15_setElement_88 rfl rfl ?_
    refine r_get 92 (aI (G 100 85)) dX15_setElement_89 fkX15_649 (fun _ => dsT_100 P W _) nn100 rfl rfl ?_
    refine r_iconst 93 2 dX15_setElement_92 rfl rfl ?_
    refine r_isub 94 dX15_setElement_93 rfl ?_
    refine r_putI 97 dX15_setElement_94 fkX15_649 (fun _ => dsT_100 P W _) nn100 rfl rfl ?_
    refine ss_tk (fun G12 => ?_)
    exact r_return dX15_setElement_97 rfl
  · refine r_aload_n 49 0 dX15_setElement_48 rfl rfl rfl ?_
    refine r_get 52 (aR 197) dX15_setElement_49 fkX15_188 (fun _ => dsT_100 P W _) nn100 rfl rfl ?_
    refine r_bipush 54 32 dX15_setElement_52 rfl rfl ?_
    refine r_aload_n 55 0 dX15_setElement_54 rfl rfl rfl ?_
    refine r_get 58 (aR 152) dX15_setElement_55 fkX15_99 (fun _ => dsT_100 P W _) nn100 rfl rfl ?_
    refine r_iload_n 59 1 dX15_setElement_58 rfl rfl rfl ?_
    refine r_iald 60 dX15_setElement_59 (fun _ _ _ => dsT_152 P W _) (fun _ _ => nn152) rfl ?_
    refine r_lload 62 4 dX15_setElement_60 rfl rfl ?_
    refine r_l2iw 63 dX15_setElement_62 rfl ?_
    refine r_iadd 64 dX15_setElement_63 rfl ?_
    refine r_imul 65 dX15_setElement_64 rfl ?_
    refine r_iload 67 5 dX15_setElement_65 rfl rfl ?_
    refine r_iadd 68 dX15_setElement_67 rfl ?_
    refine r_aload_n 69 0 dX15_setElement_68 rfl rfl rfl ?_
    refine r_get 72 (aR 185) dX15_setElement_69 fkX15_158 (fun _ => dsT_100 P W _) nn100 rfl rfl ?_
    refine r_bipush 74 32 dX15_setElement_72 rfl rfl ?_
    refine r_iload_n 75 3 dX15_setElement_74 rfl rfl rfl ?_
    refine r_imul 76 dX15_setElement_75 rfl ?_
    refine r_iload 78 5 dX15_setElement_76 rfl rfl ?_
    refine r_iadd 79 dX15_setElement_78 rfl ?_
    refine r_iald 80 dX15_setElement_79 (fun _ _ _ => dsT_185 P W _) (fun _ _ => nn185) rfl ?_
    refine r_iast 81 dX15_setElement_80 (fun _ _ _ => dsT_197 P W _) (fun _ _ => nn197) rfl ?_
    refine ss_tk (fun G13 => ?_)
    refine r_iinc 84 [(6, aI (x6 + 1)), (0, aR 100), (1, aI x1), (2, aI x2), (3, aI x3), (4, aL x4)] 5 dX15_setElement_81 rfl rfl rfl rfl ?_
    refine r_goto 42 dX15_setElement_84 rfl ?_
    refine r_to [1, 2, 3, 4, 5, 0] [(0, aR 100), (1, aI x1), (2, aI x2), (3, aI x3), (4, aL x4), (6, aI (x6 + 1))] rfl ?_
    exact SS.back (hX42 (x6 + 1, G13))
theorem sl_Tw_setElement_42 (P W : Int) (x1 : Int) (x2 : Int) (x3 : Int) (x4 : Int) (x6 : Int) (G : St) : SS (MTw_setElement P W) some 42 [(0, aR 100), (1, aI x1), (2, aI x2), (3, aI x3), (4, aL x4), (6, aI x6)] [] G (Tw_setElement_l42 P W x1 x2 x3 x4 x6 G) := by
  exact SS.loop (σ := Int × St) (fun s => [(0, aR 100), (1, aI x1), (2, aI x2), (3, aI x3), (4, aL x4), (6, aI (s.1))]) (fun s => s.2) (fun s => Tw_setElement_s42 P W x1 x2 x3 x4 s.1 s.2) (fun X42 hX42 s => s_Tw_setElement_s42 P W x1 x2 x3 x4  X42 hX42 s.1 s.2) (x6, G)
theorem s_Tw_setElement (P W : Int) (x1 : Int) (G : St) : SS (MTw_setElement P W) some 0 [(0, aR 100), (1, aI x1)] [] G (Tw_setElement P W x1 G) := by
  refine r_aload_n 1 0 dX15_setElement_0 rfl rfl rfl ?_
  refine r_aload_n 2 0 dX15_setElement_1 rfl rfl rfl ?_
  refine r_get 5 (aR 154) dX15_setElement_2 fkX15_105 (fun _ => dsT_100 P W _) nn100 rfl rfl ?_
  refine r_iload_n 6 1 dX15_setElement_5 rfl rfl rfl ?_
  refine r_iald 7 dX15_setElement_6 (fun _ _ _ => dsT_154 P W _) (fun _ _ => nn154) rfl ?_
  refine r_callvI 10 (Mc := MTw_widthOf P W) (o := 100) (as := [aI (G 154 x1)]) (st := []) dX15_setElement_7 rfl (c_Tw_widthOf P W (G 154 x1) G) lkX15_666 (cmTw_widthOf P W) rfl rfl rfl (fun _ => dsT_100 P W _) nn100 rfl (Nat.le_of_ble_eq_true rfl) (Nat.le_of_ble_eq_true rfl) (fun _ => rfl) rfl (fun z1 G2 => ?_)
  refine r_istore_n 11 [(2, aI z1), (0, aR 100), (1, aI x1)] dX15_setElement_10 rfl rfl rfl rfl ?_
  refine r_aload_n 12 1 dX15_setElement_11 rfl rfl rfl ?_
  refine r_get 15 (aI (G2 100 85)) dX15_setElement_12 fkX15_649 (fun _ => dsT_100 P W _) nn100 rfl rfl ?_
  refine r_iconst 16 1 dX15_setElement_15 rfl rfl ?_
  refine r_isub 17 dX15_setElement_16 rfl ?_
  refine r_istore_n 18 [(3, aI ((G2 100 85) - 1)), (2, aI z1), (0, aR 100), (1, aI x1)] dX15_setElement_17 rfl rfl rfl rfl ?_
  refine r_aload_n 19 2 dX15_setElement_18 rfl rfl rfl ?_
  refine r_get 22 (aR 156) dX15_setElement_19 fkX15_111 (fun _ => dsT_100 P W _) nn100 rfl rfl ?_
  refine r_iload_n 23 3 dX15_setElement_22 rfl rfl rfl ?_
  refine r_zald 24 dX15_setElement_23 (fun _ _ _ => dsT_156 P W _) (fun _ _ => nn156) rfl ?_
  refine r_if_eq 98 27 dX15_setElement_24 rfl rfl ?_ ?_
  · refine r_iconst 99 0 dX15_setElement_98 rfl rfl ?_
    refine r_istore 101 [(4, aI 0), (3, aI ((G2 100 85) - 1)), (2, aI z1), (0, aR 100), (1, aI x1)] dX15_setElement_99 rfl rfl rfl ?_
    refine r_to [3, 4, 2, 1, 0] [(0, aR 100), (1, aI x1), (2, aI z1), (3, aI ((G2 100 85) - 1)), (4, aI 0)] rfl ?_
    exact sl_Tw_setElement_101 P W x1 z1 ((G2 100 85) - 1) 0 G2
  · refine r_aload_n 28 2 dX15_setElement_27 rfl rfl rfl ?_
    refine r_aload_n 29 2 dX15_setElement_28 rfl rfl rfl ?_
    refine r_get 32 (aI (G2 100 85)) dX15_setElement_29 fkX15_649 (fun _ => dsT_100 P W _) nn100 rfl rfl ?_
    refine r_iconst 33 2 dX15_setElement_32 rfl rfl ?_
    refine r_isub 34 dX15_setElement_33 rfl ?_
    refine r_callvL 37 (Mc := MTw_worthOf P W) (o := 100) (as := [aI ((G2 100 85) - 2)]) (st := []) dX15_setElement_34 rfl (c_Tw_worthOf P W ((G2 100 85) - 2) G2) lkX15_712 (cmTw_worthOf P W) rfl rfl rfl (fun _ => dsT_100 P W _) nn100 rfl (Nat.le_of_ble_eq_true rfl) (Nat.le_of_ble_eq_true rfl) (fun _ => rfl) rfl (fun z10 G11 => ?_)
    refine r_lstore 39 [(4, aL z10), (3, aI ((G2 100 85) - 1)), (2, aI z1), (0, aR 100), (1, aI x1)] dX15_setElement_37 rfl rfl rfl ?_
    refine r_iconst 40 0 dX15_setElement_39 rfl rfl ?_
    refine r_istore 42 [(6, aI 0), (4, aL z10), (3, aI ((G2 100 85) - 1)), (2, aI z1), (0, aR 100), (1, aI x1)] dX15_setElement_40 rfl rfl rfl ?_
    refine r_to [4, 5, 3, 2, 1, 0] [(0, aR 100), (1, aI x1), (2, aI z1), (3, aI ((G2 100 85) - 1)), (4, aL z10), (6, aI 0)] rfl ?_
    exact sl_Tw_setElement_42 P W x1 z1 ((G2 100 85) - 1) z10 0 G11
theorem c_Tw_setElement (P W : Int) (x1 : Int) (G : St) : MG (MTw_setElement P W) [aR 100, aI x1] G (Tw_setElement P W x1 G) := MG.of plX15 (Nat.le_of_ble_eq_true rfl) (s_Tw_setElement P W x1 G)
theorem s_Tw_variable_s168 (P W : Int) (x1 : Int) (x2 : Int) (X151 : Int × St → Option (Int × St)) (hX151 : ∀ s, So (MTw_variable P W) 151 [(0, aR 100), (1, aI x1), (2, aI x2), (5, aI (s.1))] [] s.2 (X151 s)) (x5 : Int) (X168 : Int × St → Option (Int × St)) (hX168 : ∀ s, So (MTw_variable P W) 168 [(0, aR 100), (1, aI x1), (2, aI x2), (5, aI x5), (6, aI (s.1))] [] s.2 (X168 s)) (x6 : Int) (G : St) : SS (MTw_variable P W) (lk X168 (lk X151 some)) 168 [(0, aR 100), (1, aI x1), (2, aI x2), (5, aI x5), (6, aI x6)] [] G (Tw_variable_s168 P W x1 x2 x5 x6 G) := by
  refine r_iload 170 4 dX15_variable_168 rfl rfl ?_
  refine r_iload_n 171 2 dX15_variable_170 rfl rfl rfl ?_
  refine r_icmp_ge 207 174 dX15_variable_171 rfl rfl ?_ ?_
  · refine SS.ex ?_
    refine r_iinc 210 [(5, aI (x5 + 1)), (0, aR 100), (1, aI x1), (2, aI x2), (6, aI x6)] 3 dX15_variable_207 rfl rfl rfl rfl ?_
    refine r_goto 151 dX15_variable_210 rfl ?_
    refine r_to [1, 2, 3, 0] [(0, aR 100), (1, aI x1), (2, aI x2), (5, aI (x5 + 1))] rfl ?_
    exact SS.back (hX151 (x5 + 1, G))
  · refine r_aload_n 175 0 dX15_variable_174 rfl rfl rfl ?_
    refine r_get 178 (aR 197) dX15_variable_175 fkX15_188 (fun _ => dsT_100 P W _) nn100 rfl rfl ?_
    refine r_bipush 180 32 dX15_variable_178 rfl rfl ?_
    refine r_aload_n 181 0 dX15_variable_180 rfl rfl rfl ?_
    refine r_get 184 (aR 134) dX15_variable_181 fkX15_56 (fun _ => dsT_100 P W _) nn100 rfl rfl ?_
    refine r_iload_n 185 1 dX15_variable_184 rfl rfl rfl ?_
    refine r_iald 186 dX15_variable_185 (fun _ _ _ => dsT_134 P W _) (fun _ _ => nn134) rfl ?_
    refine r_iload 188 3 dX15_variable_186 rfl rfl ?_
    refine r_iadd 189 dX15_variable_188 rfl ?_
    refine r_imul 190 dX15_variable_189 rfl ?_
    refine r_iload 192 4 dX15_variable_190 rfl rfl ?_
    refine r_iadd 193 dX15_variable_192 rfl ?_
    refine r_aload_n 194 0 dX15_variable_193 rfl rfl rfl ?_
    refine r_get 197 (aR 189) dX15_variable_194 fkX15_167 (fun _ => dsT_100 P W _) nn100 rfl rfl ?_
    refine r_iload 199 4 dX15_variable_197 rfl rfl ?_
    refine r_iald 200 dX15_variable_199 (fun _ _ _ => dsT_189 P W _) (fun _ _ => nn189) rfl ?_
    refine r_iast 201 dX15_variable_200 (fun _ _ _ => dsT_197 P W _) (fun _ _ => nn197) rfl ?_
    refine ss_tk (fun G10 => ?_)
    refine r_iinc 204 [(6, aI (x6 + 1)), (0, aR 100), (1, aI x1), (2, aI x2), (5, aI x5)] 4 dX15_variable_201 rfl rfl rfl rfl ?_
    refine r_goto 168 dX15_variable_204 rfl ?_
    refine r_to [1, 2, 3, 4, 0] [(0, aR 100), (1, aI x1), (2, aI x2), (5, aI x5), (6, aI (x6 + 1))] rfl ?_
    exact SS.back (hX168 (x6 + 1, G10))
theorem sl_Tw_variable_168 (P W : Int) (x1 : Int) (x2 : Int) (X151 : Int × St → Option (Int × St)) (hX151 : ∀ s, So (MTw_variable P W) 151 [(0, aR 100), (1, aI x1), (2, aI x2), (5, aI (s.1))] [] s.2 (X151 s)) (x5 : Int) (x6 : Int) (G : St) : SS (MTw_variable P W) (lk X151 some) 168 [(0, aR 100), (1, aI x1), (2, aI x2), (5, aI x5), (6, aI x6)] [] G (Tw_variable_l168 P W x1 x2 x5 x6 G) := by
  exact SS.loop (σ := Int × St) (fun s => [(0, aR 100), (1, aI x1), (2, aI x2), (5, aI x5), (6, aI (s.1))]) (fun s => s.2) (fun s => Tw_variable_s168 P W x1 x2 x5 s.1 s.2) (fun X168 hX168 s => s_Tw_variable_s168 P W x1 x2 X151 hX151 x5  X168 hX168 s.1 s.2) (x6, G)
theorem s_Tw_variable_s151 (P W : Int) (x1 : Int) (x2 : Int) (X151 : Int × St → Option (Int × St)) (hX151 : ∀ s, So (MTw_variable P W) 151 [(0, aR 100), (1, aI x1), (2, aI x2), (5, aI (s.1))] [] s.2 (X151 s)) (x5 : Int) (G : St) : SS (MTw_variable P W) (lk X151 some) 151 [(0, aR 100), (1, aI x1), (2, aI x2), (5, aI x5)] [] G (Tw_variable_s151 P W x1 x2 x5 G) := by
  refine r_iload 153 3 dX15_variable_151 rfl rfl ?_
  refine r_aload_n 154 0 dX15_variable_153 rfl rfl rfl ?_
  refine r_get 157 (aR 200) dX15_variable_154 fkX15_194 (fun _ => dsT_100 P W _) nn100 rfl rfl ?_
  refine r_aload_n 158 0 dX15_variable_157 rfl rfl rfl ?_
  refine r_get 161 (aI (G 100 97)) dX15_variable_158 fkX15_675 (fun _ => dsT_100 P W _) nn100 rfl rfl ?_
  refine r_iald 162 dX15_variable_161 (fun _ _ _ => dsT_200 P W _) (fun _ _ => nn200) rfl ?_
  refine r_icmp_ge 213 165 dX15_variable_162 rfl rfl ?_ ?_
  · refine SS.ex ?_
    refine r_aload_n 214 0 dX15_variable_213 rfl rfl rfl ?_
    refine r_dup 215 dX15_variable_214 rfl rfl ?_
    refine r_get 218 (aI (G 100 97)) dX15_variable_215 fkX15_675 (fun _ => dsT_100 P W _) nn100 rfl rfl ?_
    refine r_iconst 219 1 dX15_variable_218 rfl rfl ?_
    refine r_iadd 220 dX15_variable_219 rfl ?_
    refine r_putI 223 dX15_variable_220 fkX15_675 (fun _ => dsT_100 P W _) nn100 rfl rfl ?_
    refine ss_tk (fun G9 => ?_)
    exact r_return dX15_variable_223 rfl
  · refine r_iconst 166 0 dX15_variable_165 rfl rfl ?_
    refine r_istore 168 [(6, aI 0), (0, aR 100), (1, aI x1), (2, aI x2), (5, aI x5)] dX15_variable_166 rfl rfl rfl ?_
    refine r_to [1, 2, 3, 4, 0] [(0, aR 100), (1, aI x1), (2, aI x2), (5, aI x5), (6, aI 0)] rfl ?_
    exact sl_Tw_variable_168 P W x1 x2 X151 hX151 x5 0 G
theorem sl_Tw_variable_151 (P W : Int) (x1 : Int) (x2 : Int) (x5 : Int) (G : St) : SS (MTw_variable P W) some 151 [(0, aR 100), (1, aI x1), (2, aI x2), (5, aI x5)] [] G (Tw_variable_l151 P W x1 x2 x5 G) := by
  exact SS.loop (σ := Int × St) (fun s => [(0, aR 100), (1, aI x1), (2, aI x2), (5, aI (s.1))]) (fun s => s.2) (fun s => Tw_variable_s151 P W x1 x2 s.1 s.2) (fun X151 hX151 s => s_Tw_variable_s151 P W x1 x2  X151 hX151 s.1 s.2) (x5, G)
theorem s_Tw_variable_b137 (P W : Int) (x1 : Int) (x2 : Int) (s0 : Int) (s1 : Int) (G : St) : SS (MTw_variable P W) some 137 [(0, aR 100), (1, aI x1), (2, aI x2)] [aI s0, aI s1, aR 200] G (Tw_variable_b137 P W x1 x2 s0 s1 G) := by
  refine r_iast 138 dX15_variable_137 (fun _ _ _ => dsT_200 P W _) (fun _ _ => nn200) rfl ?_
  refine ss_tk (fun G7 => ?_)
  refine r_aload_n 139 0 dX15_variable_138 rfl rfl rfl ?_
  refine r_get 142 (aR 201) dX15_variable_139 fkX15_197 (fun _ => dsT_100 P W _) nn100 rfl rfl ?_
  refine r_aload_n 143 0 dX15_variable_142 rfl rfl rfl ?_
  refine r_get 146 (aI (G7 100 97)) dX15_variable_143 fkX15_675 (fun _ => dsT_100 P W _) nn100 rfl rfl ?_
  refine r_iload_n 147 2 dX15_variable_146 rfl rfl rfl ?_
  refine r_iast 148 dX15_variable_147 (fun _ _ _ => dsT_201 P W _) (fun _ _ => nn201) rfl ?_
  refine ss_tk (fun G8 => ?_)
  refine r_iconst 149 0 dX15_variable_148 rfl rfl ?_
  refine r_istore 151 [(5, aI 0), (0, aR 100), (1, aI x1), (2, aI x2)] dX15_variable_149 rfl rfl rfl ?_
  refine r_to [1, 2, 3, 0] [(0, aR 100), (1, aI x1), (2, aI x2), (5, aI 0)] rfl ?_
  exact sl_Tw_variable_151 P W x1 x2 0 G8
theorem s_Tw_variable_b103 (P W : Int) (x1 : Int) (x2 : Int) (x4 : Int) (G : St) : SS (MTw_variable P W) some 103 [(0, aR 100), (1, aI x1), (2, aI x2), (4, aI x4)] [] G (Tw_variable_b103 P W x1 x2 x4 G) := by
  refine r_aload_n 104 0 dX15_variable_103 rfl rfl rfl ?_
  refine r_get 107 (aR 199) dX15_variable_104 fkX15_191 (fun _ => dsT_100 P W _) nn100 rfl rfl ?_
  refine r_aload_n 108 0 dX15_variable_107 rfl rfl rfl ?_
  refine r_get 111 (aI (G 100 97)) dX15_variable_108 fkX15_675 (fun _ => dsT_100 P W _) nn100 rfl rfl ?_
  refine r_aload_n 112 0 dX15_variable_111 rfl rfl rfl ?_
  refine r_get 115 (aR 134) dX15_variable_112 fkX15_56 (fun _ => dsT_100 P W _) nn100 rfl rfl ?_
  refine r_iload_n 116 1 dX15_variable_115 rfl rfl rfl ?_
  refine r_iald 117 dX15_variable_116 (fun _ _ _ => dsT_134 P W _) (fun _ _ => nn134) rfl ?_
  refine r_iast 118 dX15_variable_117 (fun _ _ _ => dsT_199 P W _) (fun _ _ => nn199) rfl ?_
  refine ss_tk (fun G6 => ?_)
  refine r_aload_n 119 0 dX15_variable_118 rfl rfl rfl ?_
  refine r_get 122 (aR 200) dX15_variable_119 fkX15_194 (fun _ => dsT_100 P W _) nn100 rfl rfl ?_
  refine r_aload_n 123 0 dX15_variable_122 rfl rfl rfl ?_
  refine r_get 126 (aI (G6 100 97)) dX15_variable_123 fkX15_675 (fun _ => dsT_100 P W _) nn100 rfl rfl ?_
  refine r_iload 128 3 dX15_variable_126 rfl rfl ?_
  refine SS.phi (fun VV_ => Tw_variable_b137 P W x1 x2 VV_ (G6 100 97) G6) ?_
  refine r_if_ne 135 131 dX15_variable_128 rfl rfl ?_ ?_
  · refine r_iload 137 3 dX15_variable_135 rfl rfl ?_
    refine r_to [0, 1, 2] [(0, aR 100), (1, aI x1), (2, aI x2)] rfl ?_
    exact s_Tw_variable_b137 P W x1 x2 x4 (G6 100 97) G6
  · refine r_iconst 132 1 dX15_variable_131 rfl rfl ?_
    refine r_goto 137 dX15_variable_132 rfl ?_
    refine r_to [0, 1, 2] [(0, aR 100), (1, aI x1), (2, aI x2)] rfl ?_
    exact s_Tw_variable_b137 P W x1 x2 1 (G6 100 97) G6
theorem s_Tw_variable_s69 (P W : Int) (x1 : Int) (x2 : Int) (x4 : Int) (X69 : Int × St → Option (Int × St)) (hX69 : ∀ s, So (MTw_variable P W) 69 [(0, aR 100), (1, aI x1), (2, aI x2), (4, aI x4), (5, aI (s.1))] [] s.2 (X69 s)) (x5 : Int) (G : St) : SS (MTw_variable P W) (lk X69 some) 69 [(0, aR 100), (1, aI x1), (2, aI x2), (4, aI x4), (5, aI x5)] [] G (Tw_variable_s69 P W x1 x2 x4 x5 G) := by
  refine r_iload 71 4 dX15_variable_69 rfl rfl ?_
  refine r_iload_n 72 2 dX15_variable_71 rfl rfl rfl ?_
  refine r_icmp_ge 103 75 dX15_variable_72 rfl rfl ?_ ?_
  · refine SS.ex ?_
    refine r_to [0, 1, 2, 3] [(0, aR 100), (1, aI x1), (2, aI x2), (4, aI x4)] rfl ?_
    exact s_Tw_variable_b103 P W x1 x2 x4 G
  · refine r_aload_n 76 0 dX15_variable_75 rfl rfl rfl ?_
    refine r_get 79 (aR 189) dX15_variable_76 fkX15_167 (fun _ => dsT_100 P W _) nn100 rfl rfl ?_
    refine r_iload 81 4 dX15_variable_79 rfl rfl ?_
    refine r_aload_n 82 0 dX15_variable_81 rfl rfl rfl ?_
    refine r_get 85 (aR 185) dX15_variable_82 fkX15_158 (fun _ => dsT_100 P W _) nn100 rfl rfl ?_
    refine r_bipush 87 32 dX15_variable_85 rfl rfl ?_
    refine r_aload_n 88 0 dX15_variable_87 rfl rfl rfl ?_
    refine r_get 91 (aI (G 100 85)) dX15_variable_88 fkX15_649 (fun _ => dsT_100 P W _) nn100 rfl rfl ?_
    refine r_imul 92 dX15_variable_91 rfl ?_
    refine r_iload 94 4 dX15_variable_92 rfl rfl ?_
    refine r_iadd 95 dX15_variable_94 rfl ?_
    refine r_iald 96 dX15_variable_95 (fun _ _ _ => dsT_185 P W _) (fun _ _ => nn185) rfl ?_
    refine r_iast 97 dX15_variable_96 (fun _ _ _ => dsT_189 P W _) (fun _ _ => nn189) rfl ?_
    refine ss_tk (fun G12 => ?_)
    refine r_iinc 100 [(5, aI (x5 + 1)), (0, aR 100), (1, aI x1), (2, aI x2), (4, aI x4)] 4 dX15_variable_97 rfl rfl rfl rfl ?_
    refine r_goto 69 dX15_variable_100 rfl ?_
    refine r_to [1, 2, 3, 4, 0] [(0, aR 100), (1, aI x1), (2, aI x2), (4, aI x4), (5, aI (x5 + 1))] rfl ?_
    exact SS.back (hX69 (x5 + 1, G12))
theorem sl_Tw_variable_69 (P W : Int) (x1 : Int) (x2 : Int) (x4 : Int) (x5 : Int) (G : St) : SS (MTw_variable P W) some 69 [(0, aR 100), (1, aI x1), (2, aI x2), (4, aI x4), (5, aI x5)] [] G (Tw_variable_l69 P W x1 x2 x4 x5 G) := by
  exact SS.loop (σ := Int × St) (fun s => [(0, aR 100), (1, aI x1), (2, aI x2), (4, aI x4), (5, aI (s.1))]) (fun s => s.2) (fun s => Tw_variable_s69 P W x1 x2 x4 s.1 s.2) (fun X69 hX69 s => s_Tw_variable_s69 P W x1 x2 x4  X69 hX69 s.1 s.2) (x5, G)
theorem s_Tw_variable_b29 (P W : Int) (x1 : Int) (x2 : Int) (s0 : Int) (G : St) : SS (MTw_variable P W) some 29 [(0, aR 100), (1, aI x1), (2, aI x2)] [aI s0] G (Tw_variable_b29 P W x1 x2 s0 G) := by
  refine r_istore_n 30 [(3, aI s0), (0, aR 100), (1, aI x1), (2, aI x2)] dX15_variable_29 rfl rfl rfl rfl ?_
  refine r_aload_n 31 1 dX15_variable_30 rfl rfl rfl ?_
  refine r_get 34 (aR 119) dX15_variable_31 fkX15_34 (fun _ => dsT_100 P W _) nn100 rfl rfl ?_
  refine r_iload_n 35 2 dX15_variable_34 rfl rfl rfl ?_
  refine r_lald 36 dX15_variable_35 (fun _ _ _ => dsT_119 P W _) (fun _ _ => nn119) rfl ?_
  refine r_bipush 38 8 dX15_variable_36 rfl rfl ?_
  refine r_lshr 39 dX15_variable_38 rfl ?_
  refine r_ldc2 42 255 dX15_variable_39 q2541 (by decide) rfl rfl ?_
  refine r_land 43 dX15_variable_42 rfl ?_
  refine r_l2iw 44 dX15_variable_43 rfl ?_
  refine r_istore 46 [(4, aI (w32 (j_lan (j_lsr (G 119 x1) 8) 255))), (3, aI s0), (0, aR 100), (1, aI x1), (2, aI x2)] dX15_variable_44 rfl rfl rfl ?_
  refine ss_vlI (fun v3 => ?_)
  refine r_aload_n 47 2 dX15_variable_46 rfl rfl rfl ?_
  refine r_lconst 48 0 dX15_variable_47 rfl rfl rfl ?_
  refine r_iload_n 49 4 dX15_variable_48 rfl rfl rfl ?_
  refine r_callvV 52 (Mc := MTw_constantZ P W) (o := 100) (as := [aL 0, aI x2]) (st := []) dX15_variable_49 rfl (c_Tw_constantZ P W 0 x2 G) lkX15_693 (cmTw_constantZ P W) rfl rfl rfl (fun _ => dsT_100 P W _) nn100 rfl (Nat.le_of_ble_eq_true rfl) (Nat.le_of_ble_eq_true rfl) (fun _ => rfl) rfl (fun z4 G5 => ?_)
  refine r_iload_n 53 1 dX15_variable_52 rfl rfl rfl ?_
  refine r_if_eq 103 56 dX15_variable_53 rfl rfl ?_ ?_
  · refine r_to [2, 3, 4, 0] [(0, aR 100), (1, aI x1), (2, aI x2), (4, aI v3)] rfl ?_
    exact s_Tw_variable_b103 P W x1 x2 v3 G5
  · refine r_aload_n 57 2 dX15_variable_56 rfl rfl rfl ?_
    refine r_dup 58 dX15_variable_57 rfl rfl ?_
    refine r_get 61 (aI (G5 100 85)) dX15_variable_58 fkX15_649 (fun _ => dsT_100 P W _) nn100 rfl rfl ?_
    refine r_iconst 62 1 dX15_variable_61 rfl rfl ?_
    refine r_isub 63 dX15_variable_62 rfl ?_
    refine r_putI 66 dX15_variable_63 fkX15_649 (fun _ => dsT_100 P W _) nn100 rfl rfl ?_
    refine ss_tk (fun G11 => ?_)
    refine r_iconst 67 0 dX15_variable_66 rfl rfl ?_
    refine r_istore 69 [(5, aI 0), (4, aI v3), (3, aI s0), (0, aR 100), (1, aI x1), (2, aI x2)] dX15_variable_67 rfl rfl rfl ?_
    refine r_to [3, 4, 5, 1, 0] [(0, aR 100), (1, aI x1), (2, aI x2), (4, aI v3), (5, aI 0)] rfl ?_
    exact sl_Tw_variable_69 P W x1 x2 v3 0 G11
theorem s_Tw_variable (P W : Int) (x1 : Int) (G : St) : SS (MTw_variable P W) some 0 [(0, aR 100), (1, aI x1)] [] G (Tw_variable P W x1 G) := by
  refine r_aload_n 1 0 dX15_variable_0 rfl rfl rfl ?_
  refine r_aload_n 2 0 dX15_variable_1 rfl rfl rfl ?_
  refine r_get 5 (aR 117) dX15_variable_2 fkX15_28 (fun _ => dsT_100 P W _) nn100 rfl rfl ?_
  refine r_iload_n 6 1 dX15_variable_5 rfl rfl rfl ?_
  refine r_iald 7 dX15_variable_6 (fun _ _ _ => dsT_117 P W _) (fun _ _ => nn117) rfl ?_
  refine r_callvI 10 (Mc := MTw_widthOf P W) (o := 100) (as := [aI (G 117 x1)]) (st := []) dX15_variable_7 rfl (c_Tw_widthOf P W (G 117 x1) G) lkX15_666 (cmTw_widthOf P W) rfl rfl rfl (fun _ => dsT_100 P W _) nn100 rfl (Nat.le_of_ble_eq_true rfl) (Nat.le_of_ble_eq_true rfl) (fun _ => rfl) rfl (fun z1 G2 => ?_)
  refine r_istore_n 11 [(2, aI z1), (0, aR 100), (1, aI x1)] dX15_variable_10 rfl rfl rfl rfl ?_
  refine r_aload_n 12 1 dX15_variable_11 rfl rfl rfl ?_
  refine r_get 15 (aR 119) dX15_variable_12 fkX15_34 (fun _ => dsT_100 P W _) nn100 rfl rfl ?_
  refine r_iload_n 16 2 dX15_variable_15 rfl rfl rfl ?_
  refine r_lald 17 dX15_variable_16 (fun _ _ _ => dsT_119 P W _) (fun _ _ => nn119) rfl ?_
  refine r_ldc2 20 65536 dX15_variable_17 q2451 (by decide) rfl rfl ?_
  refine SS.phi (fun VV_ => Tw_variable_b29 P W x1 z1 VV_ G2) ?_
  refine r_lif_lt 21 28 24 dX15_variable_20 rfl dX15_variable_21 rfl rfl ?_ ?_
  · refine r_iconst 29 0 dX15_variable_28 rfl rfl ?_
    refine r_to [1, 2, 0] [(0, aR 100), (1, aI x1), (2, aI z1)] rfl ?_
    exact s_Tw_variable_b29 P W x1 z1 0 G2
  · refine r_iconst 25 1 dX15_variable_24 rfl rfl ?_
    refine r_goto 29 dX15_variable_25 rfl ?_
    refine r_to [1, 2, 0] [(0, aR 100), (1, aI x1), (2, aI z1)] rfl ?_
    exact s_Tw_variable_b29 P W x1 z1 1 G2
theorem c_Tw_variable (P W : Int) (x1 : Int) (G : St) : MG (MTw_variable P W) [aR 100, aI x1] G (Tw_variable P W x1 G) := MG.of plX15 (Nat.le_of_ble_eq_true rfl) (s_Tw_variable P W x1 G)
theorem s_Tw_statement_b756 (P W : Int) (x1 : Int) (G : St) : SS (MTw_statement P W) some 756 [(1, aI x1)] [] G (Tw_statement_b756 P W x1 G) := by
  refine r_iload_n 757 0 dX15_statement_756 rfl rfl rfl ?_
  refine r_iconst 758 1 dX15_statement_757 rfl rfl ?_
  refine r_iadd 759 dX15_statement_758 rfl ?_
  exact r_ireturn dX15_statement_759 rfl
theorem s_Tw_statement_b112 (P W : Int) (x1 : Int) (G : St) : SS (MTw_statement P W) some 112 [(0, aR 100), (1, aI x1)] [] G (Tw_statement_b112 P W x1 G) := by
  refine r_aload_n 113 0 dX15_statement_112 rfl rfl rfl ?_
  refine r_get 116 (aR 196) dX15_statement_113 fkX15_185 (fun _ => dsT_100 P W _) nn100 rfl rfl ?_
  refine r_aload_n 117 0 dX15_statement_116 rfl rfl rfl ?_
  refine r_get 120 (aI (G 100 94)) dX15_statement_117 fkX15_621 (fun _ => dsT_100 P W _) nn100 rfl rfl ?_
  refine r_aload_n 121 0 dX15_statement_120 rfl rfl rfl ?_
  refine r_get 124 (aR 118) dX15_statement_121 fkX15_31 (fun _ => dsT_100 P W _) nn100 rfl rfl ?_
  refine r_iload_n 125 1 dX15_statement_124 rfl rfl rfl ?_
  refine r_iald 126 dX15_statement_125 (fun _ _ _ => dsT_118 P W _) (fun _ _ => nn118) rfl ?_
  refine r_iast 127 dX15_statement_126 (fun _ _ _ => dsT_196 P W _) (fun _ _ => nn196) rfl ?_
  refine ss_tk (fun G1 => ?_)
  refine r_aload_n 128 0 dX15_statement_127 rfl rfl rfl ?_
  refine r_dup 129 dX15_statement_128 rfl rfl ?_
  refine r_get 132 (aI (G1 100 94)) dX15_statement_129 fkX15_621 (fun _ => dsT_100 P W _) nn100 rfl rfl ?_
  refine r_iconst 133 1 dX15_statement_132 rfl rfl ?_
  refine r_iadd 134 dX15_statement_133 rfl ?_
  refine r_putI 137 dX15_statement_134 fkX15_621 (fun _ => dsT_100 P W _) nn100 rfl rfl ?_
  refine ss_tk (fun G2 => ?_)
  refine r_aload_n 138 0 dX15_statement_137 rfl rfl rfl ?_
  refine r_callvV 141 (Mc := MTw_step P W) (o := 100) (as := []) (st := []) dX15_statement_138 rfl (c_Tw_step P W G2) lkX15_690 (cmTw_step P W) rfl rfl rfl (fun _ => dsT_100 P W _) nn100 rfl (Nat.le_of_ble_eq_true rfl) (Nat.le_of_ble_eq_true rfl) (fun _ => rfl) rfl (fun z3 G4 => ?_)
  refine r_goto 756 dX15_statement_141 rfl ?_
  refine r_to [1] [(1, aI x1)] rfl ?_
  exact s_Tw_statement_b756 P W x1 G4
theorem s_Tw_statement_b144 (P W : Int) (x1 : Int) (G : St) : SS (MTw_statement P W) some 144 [(0, aR 100), (1, aI x1)] [] G (Tw_statement_b144 P W x1 G) := by
  refine r_aload_n 145 0 dX15_statement_144 rfl rfl rfl ?_
  refine r_dup 146 dX15_statement_145 rfl rfl ?_
  refine r_get 149 (aI (G 100 94)) dX15_statement_146 fkX15_621 (fun _ => dsT_100 P W _) nn100 rfl rfl ?_
  refine r_iconst 150 1 dX15_statement_149 rfl rfl ?_
  refine r_isub 151 dX15_statement_150 rfl ?_
  refine r_putI 154 dX15_statement_151 fkX15_621 (fun _ => dsT_100 P W _) nn100 rfl rfl ?_
  refine ss_tk (fun G5 => ?_)
  refine r_goto 756 dX15_statement_154 rfl ?_
  refine r_to [1] [(1, aI x1)] rfl ?_
  exact s_Tw_statement_b756 P W x1 G5
theorem s_Tw_statement_b157 (P W : Int) (x1 : Int) (G : St) : SS (MTw_statement P W) some 157 [(0, aR 100), (1, aI x1)] [] G (Tw_statement_b157 P W x1 G) := by
  refine r_aload_n 158 0 dX15_statement_157 rfl rfl rfl ?_
  refine r_iload_n 159 1 dX15_statement_158 rfl rfl rfl ?_
  refine r_callvV 162 (Mc := MTw_variable P W) (o := 100) (as := [aI x1]) (st := []) dX15_statement_159 rfl (c_Tw_variable P W x1 G) lkX15_753 (cmTw_variable P W) rfl rfl rfl (fun _ => dsT_100 P W _) nn100 rfl (Nat.le_of_ble_eq_true rfl) (Nat.le_of_ble_eq_true rfl) (fun _ => rfl) rfl (fun z6 G7 => ?_)
  refine r_goto 756 dX15_statement_162 rfl ?_
  refine r_to [1] [(1, aI x1)] rfl ?_
  exact s_Tw_statement_b756 P W x1 G7
theorem s_Tw_statement_b165 (P W : Int) (x1 : Int) (G : St) : SS (MTw_statement P W) some 165 [(0, aR 100), (1, aI x1)] [] G (Tw_statement_b165 P W x1 G) := by
  refine r_aload_n 166 0 dX15_statement_165 rfl rfl rfl ?_
  refine r_get 169 (aR 119) dX15_statement_166 fkX15_34 (fun _ => dsT_100 P W _) nn100 rfl rfl ?_
  refine r_iload_n 170 1 dX15_statement_169 rfl rfl rfl ?_
  refine r_lald 171 dX15_statement_170 (fun _ _ _ => dsT_119 P W _) (fun _ _ => nn119) rfl ?_
  refine r_l2iw 172 dX15_statement_171 rfl ?_
  refine r_iconst 173 1 dX15_statement_172 rfl rfl ?_
  refine r_iadd 174 dX15_statement_173 rfl ?_
  exact r_ireturn dX15_statement_174 rfl
theorem s_Tw_statement_s197 (P W : Int) (x2 : Int) (X197 : Int × St → Option (Int × St)) (hX197 : ∀ s, So (MTw_statement P W) 197 [(0, aR 100), (2, aI x2), (3, aI (s.1))] [] s.2 (X197 s)) (x3 : Int) (G : St) : SS (MTw_statement P W) (lk X197 some) 197 [(0, aR 100), (2, aI x2), (3, aI x3)] [] G (Tw_statement_s197 P W x2 x3 G) := by
  refine r_iload_n 198 2 dX15_statement_197 rfl rfl rfl ?_
  refine r_bipush 200 32 dX15_statement_198 rfl rfl ?_
  refine r_icmp_ge 236 203 dX15_statement_200 rfl rfl ?_ ?_
  · refine SS.ex ?_
    refine r_aload_n 237 0 dX15_statement_236 rfl rfl rfl ?_
    refine r_iload_n 238 1 dX15_statement_237 rfl rfl rfl ?_
    refine r_iconst 239 1 dX15_statement_238 rfl rfl ?_
    refine r_iadd 240 dX15_statement_239 rfl ?_
    refine r_putI 243 dX15_statement_240 fkX15_649 (fun _ => dsT_100 P W _) nn100 rfl rfl ?_
    refine ss_tk (fun G9 => ?_)
    refine r_aload_n 244 0 dX15_statement_243 rfl rfl rfl ?_
    refine r_get 247 (aR 213) dX15_statement_244 fkX15_228 (fun _ => dsT_100 P W _) nn100 rfl rfl ?_
    refine r_aload_n 248 0 dX15_statement_247 rfl rfl rfl ?_
    refine r_get 251 (aI (G9 100 110)) dX15_statement_248 fkX15_681 (fun _ => dsT_100 P W _) nn100 rfl rfl ?_
    refine r_iald 252 dX15_statement_251 (fun _ _ _ => dsT_213 P W _) (fun _ _ => nn213) rfl ?_
    exact r_ireturn dX15_statement_252 rfl
  · refine r_aload_n 204 0 dX15_statement_203 rfl rfl rfl ?_
    refine r_get 207 (aR 185) dX15_statement_204 fkX15_158 (fun _ => dsT_100 P W _) nn100 rfl rfl ?_
    refine r_bipush 209 32 dX15_statement_207 rfl rfl ?_
    refine r_iload_n 210 1 dX15_statement_209 rfl rfl rfl ?_
    refine r_imul 211 dX15_statement_210 rfl ?_
    refine r_iload_n 212 2 dX15_statement_211 rfl rfl rfl ?_
    refine r_iadd 213 dX15_statement_212 rfl ?_
    refine r_aload_n 214 0 dX15_statement_213 rfl rfl rfl ?_
    refine r_get 217 (aR 185) dX15_statement_214 fkX15_158 (fun _ => dsT_100 P W _) nn100 rfl rfl ?_
    refine r_bipush 219 32 dX15_statement_217 rfl rfl ?_
    refine r_aload_n 220 0 dX15_statement_219 rfl rfl rfl ?_
    refine r_get 223 (aI (G 100 85)) dX15_statement_220 fkX15_649 (fun _ => dsT_100 P W _) nn100 rfl rfl ?_
    refine r_iconst 224 1 dX15_statement_223 rfl rfl ?_
    refine r_isub 225 dX15_statement_224 rfl ?_
    refine r_imul 226 dX15_statement_225 rfl ?_
    refine r_iload_n 227 2 dX15_statement_226 rfl rfl rfl ?_
    refine r_iadd 228 dX15_statement_227 rfl ?_
    refine r_iald 229 dX15_statement_228 (fun _ _ _ => dsT_185 P W _) (fun _ _ => nn185) rfl ?_
    refine r_iast 230 dX15_statement_229 (fun _ _ _ => dsT_185 P W _) (fun _ _ => nn185) rfl ?_
    refine ss_tk (fun G10 => ?_)
    refine r_iinc 233 [(3, aI (x3 + 1)), (0, aR 100), (2, aI x2)] 2 dX15_statement_230 rfl rfl rfl rfl ?_
    refine r_goto 197 dX15_statement_233 rfl ?_
    refine r_to [1, 2, 0] [(0, aR 100), (2, aI x2), (3, aI (x3 + 1))] rfl ?_
    exact SS.back (hX197 (x3 + 1, G10))
theorem sl_Tw_statement_197 (P W : Int) (x2 : Int) (x3 : Int) (G : St) : SS (MTw_statement P W) some 197 [(0, aR 100), (2, aI x2), (3, aI x3)] [] G (Tw_statement_l197 P W x2 x3 G) := by
  exact SS.loop (σ := Int × St) (fun s => [(0, aR 100), (2, aI x2), (3, aI (s.1))]) (fun s => s.2) (fun s => Tw_statement_s197 P W x2 s.1 s.2) (fun X197 hX197 s => s_Tw_statement_s197 P W x2  X197 hX197 s.1 s.2) (x3, G)
theorem s_Tw_statement_b175 (P W : Int) (G : St) : SS (MTw_statement P W) some 175 [(0, aR 100)] [] G (Tw_statement_b175 P W G) := by
  refine r_aload_n 176 0 dX15_statement_175 rfl rfl rfl ?_
  refine r_dup 177 dX15_statement_176 rfl rfl ?_
  refine r_get 180 (aI (G 100 110)) dX15_statement_177 fkX15_681 (fun _ => dsT_100 P W _) nn100 rfl rfl ?_
  refine r_iconst 181 1 dX15_statement_180 rfl rfl ?_
  refine r_isub 182 dX15_statement_181 rfl ?_
  refine r_putI 185 dX15_statement_182 fkX15_681 (fun _ => dsT_100 P W _) nn100 rfl rfl ?_
  refine ss_tk (fun G8 => ?_)
  refine r_aload_n 186 0 dX15_statement_185 rfl rfl rfl ?_
  refine r_get 189 (aR 212) dX15_statement_186 fkX15_225 (fun _ => dsT_100 P W _) nn100 rfl rfl ?_
  refine r_aload_n 190 0 dX15_statement_189 rfl rfl rfl ?_
  refine r_get 193 (aI (G8 100 110)) dX15_statement_190 fkX15_681 (fun _ => dsT_100 P W _) nn100 rfl rfl ?_
  refine r_iald 194 dX15_statement_193 (fun _ _ _ => dsT_212 P W _) (fun _ _ => nn212) rfl ?_
  refine r_istore_n 195 [(2, aI (G8 212 (G8 100 110))), (0, aR 100)] dX15_statement_194 rfl rfl rfl rfl ?_
  refine r_iconst 196 0 dX15_statement_195 rfl rfl ?_
  refine r_istore_n 197 [(3, aI 0), (2, aI (G8 212 (G8 100 110))), (0, aR 100)] dX15_statement_196 rfl rfl rfl rfl ?_
  refine r_to [2, 1, 0] [(0, aR 100), (2, aI (G8 212 (G8 100 110))), (3, aI 0)] rfl ?_
  exact sl_Tw_statement_197 P W (G8 212 (G8 100 110)) 0 G8
theorem s_Tw_statement_s284 (P W : Int) (x1 : Int) (X284 : Int × St → Option (Int × St)) (hX284 : ∀ s, So (MTw_statement P W) 284 [(0, aR 100), (1, aI x1), (2, aI (s.1))] [] s.2 (X284 s)) (x2 : Int) (G : St) : SS (MTw_statement P W) (lk X284 some) 284 [(0, aR 100), (1, aI x1), (2, aI x2)] [] G (Tw_statement_s284 P W x1 x2 G) := by
  refine r_iload_n 285 2 dX15_statement_284 rfl rfl rfl ?_
  refine r_aload_n 286 0 dX15_statement_285 rfl rfl rfl ?_
  refine r_get 289 (aR 182) dX15_statement_286 fkX15_151 (fun _ => dsT_100 P W _) nn100 rfl rfl ?_
  refine r_aload_n 290 0 dX15_statement_289 rfl rfl rfl ?_
  refine r_get 293 (aI (G 100 69)) dX15_statement_290 fkX15_672 (fun _ => dsT_100 P W _) nn100 rfl rfl ?_
  refine r_iald 294 dX15_statement_293 (fun _ _ _ => dsT_182 P W _) (fun _ _ => nn182) rfl ?_
  refine r_icmp_ge 331 297 dX15_statement_294 rfl rfl ?_ ?_
  · refine SS.ex ?_
    refine r_aload_n 332 0 dX15_statement_331 rfl rfl rfl ?_
    refine r_dup 333 dX15_statement_332 rfl rfl ?_
    refine r_get 336 (aI (G 100 69)) dX15_statement_333 fkX15_672 (fun _ => dsT_100 P W _) nn100 rfl rfl ?_
    refine r_iconst 337 1 dX15_statement_336 rfl rfl ?_
    refine r_iadd 338 dX15_statement_337 rfl ?_
    refine r_putI 341 dX15_statement_338 fkX15_672 (fun _ => dsT_100 P W _) nn100 rfl rfl ?_
    refine ss_tk (fun G15 => ?_)
    refine r_goto 756 dX15_statement_341 rfl ?_
    refine r_to [1] [(1, aI x1)] rfl ?_
    exact s_Tw_statement_b756 P W x1 G15
  · refine r_aload_n 298 0 dX15_statement_297 rfl rfl rfl ?_
    refine r_get 301 (aR 183) dX15_statement_298 fkX15_154 (fun _ => dsT_100 P W _) nn100 rfl rfl ?_
    refine r_bipush 303 32 dX15_statement_301 rfl rfl ?_
    refine r_aload_n 304 0 dX15_statement_303 rfl rfl rfl ?_
    refine r_get 307 (aI (G 100 69)) dX15_statement_304 fkX15_672 (fun _ => dsT_100 P W _) nn100 rfl rfl ?_
    refine r_imul 308 dX15_statement_307 rfl ?_
    refine r_iload_n 309 2 dX15_statement_308 rfl rfl rfl ?_
    refine r_iadd 310 dX15_statement_309 rfl ?_
    refine r_aload_n 311 0 dX15_statement_310 rfl rfl rfl ?_
    refine r_get 314 (aR 185) dX15_statement_311 fkX15_158 (fun _ => dsT_100 P W _) nn100 rfl rfl ?_
    refine r_bipush 316 32 dX15_statement_314 rfl rfl ?_
    refine r_aload_n 317 0 dX15_statement_316 rfl rfl rfl ?_
    refine r_get 320 (aI (G 100 85)) dX15_statement_317 fkX15_649 (fun _ => dsT_100 P W _) nn100 rfl rfl ?_
    refine r_imul 321 dX15_statement_320 rfl ?_
    refine r_iload_n 322 2 dX15_statement_321 rfl rfl rfl ?_
    refine r_iadd 323 dX15_statement_322 rfl ?_
    refine r_iald 324 dX15_statement_323 (fun _ _ _ => dsT_185 P W _) (fun _ _ => nn185) rfl ?_
    refine r_iast 325 dX15_statement_324 (fun _ _ _ => dsT_183 P W _) (fun _ _ => nn183) rfl ?_
    refine ss_tk (fun G16 => ?_)
    refine r_iinc 328 [(2, aI (x2 + 1)), (0, aR 100), (1, aI x1)] 2 dX15_statement_325 rfl rfl rfl rfl ?_
    refine r_goto 284 dX15_statement_328 rfl ?_
    refine r_to [1, 2, 0] [(0, aR 100), (1, aI x1), (2, aI (x2 + 1))] rfl ?_
    exact SS.back (hX284 (x2 + 1, G16))
theorem sl_Tw_statement_284 (P W : Int) (x1 : Int) (x2 : Int) (G : St) : SS (MTw_statement P W) some 284 [(0, aR 100), (1, aI x1), (2, aI x2)] [] G (Tw_statement_l284 P W x1 x2 G) := by
  exact SS.loop (σ := Int × St) (fun s => [(0, aR 100), (1, aI x1), (2, aI (s.1))]) (fun s => s.2) (fun s => Tw_statement_s284 P W x1 s.1 s.2) (fun X284 hX284 s => s_Tw_statement_s284 P W x1  X284 hX284 s.1 s.2) (x2, G)
theorem s_Tw_statement_b253 (P W : Int) (x1 : Int) (G : St) : SS (MTw_statement P W) some 253 [(0, aR 100), (1, aI x1)] [] G (Tw_statement_b253 P W x1 G) := by
  refine r_aload_n 254 0 dX15_statement_253 rfl rfl rfl ?_
  refine r_get 257 (aR 182) dX15_statement_254 fkX15_151 (fun _ => dsT_100 P W _) nn100 rfl rfl ?_
  refine r_aload_n 258 0 dX15_statement_257 rfl rfl rfl ?_
  refine r_get 261 (aI (G 100 69)) dX15_statement_258 fkX15_672 (fun _ => dsT_100 P W _) nn100 rfl rfl ?_
  refine r_aload_n 262 0 dX15_statement_261 rfl rfl rfl ?_
  refine r_aload_n 263 0 dX15_statement_262 rfl rfl rfl ?_
  refine r_get 266 (aR 117) dX15_statement_263 fkX15_28 (fun _ => dsT_100 P W _) nn100 rfl rfl ?_
  refine r_iload_n 267 1 dX15_statement_266 rfl rfl rfl ?_
  refine r_iald 268 dX15_statement_267 (fun _ _ _ => dsT_117 P W _) (fun _ _ => nn117) rfl ?_
  refine r_callvI 271 (Mc := MTw_widthOf P W) (o := 100) (as := [aI (G 117 x1)]) (st := [aI (G 100 69), aR 182]) dX15_statement_268 rfl (c_Tw_widthOf P W (G 117 x1) G) lkX15_666 (cmTw_widthOf P W) rfl rfl rfl (fun _ => dsT_100 P W _) nn100 rfl (Nat.le_of_ble_eq_true rfl) (Nat.le_of_ble_eq_true rfl) (fun _ => rfl) rfl (fun z11 G12 => ?_)
  refine r_iast 272 dX15_statement_271 (fun _ _ _ => dsT_182 P W _) (fun _ _ => nn182) rfl ?_
  refine ss_tk (fun G13 => ?_)
  refine r_aload_n 273 0 dX15_statement_272 rfl rfl rfl ?_
  refine r_dup 274 dX15_statement_273 rfl rfl ?_
  refine r_get 277 (aI (G13 100 85)) dX15_statement_274 fkX15_649 (fun _ => dsT_100 P W _) nn100 rfl rfl ?_
  refine r_iconst 278 1 dX15_statement_277 rfl rfl ?_
  refine r_isub 279 dX15_statement_278 rfl ?_
  refine r_putI 282 dX15_statement_279 fkX15_649 (fun _ => dsT_100 P W _) nn100 rfl rfl ?_
  refine ss_tk (fun G14 => ?_)
  refine r_iconst 283 0 dX15_statement_282 rfl rfl ?_
  refine r_istore_n 284 [(2, aI 0), (0, aR 100), (1, aI x1)] dX15_statement_283 rfl rfl rfl rfl ?_
  refine r_to [1, 2, 0] [(0, aR 100), (1, aI x1), (2, aI 0)] rfl ?_
  exact sl_Tw_statement_284 P W x1 0 G14
theorem s_Tw_statement_s356 (P W : Int) (x1 : Int) (X356 : Int × St → Option (Int × St)) (hX356 : ∀ s, So (MTw_statement P W) 356 [(0, aR 100), (1, aI x1), (2, aI (s.1))] [] s.2 (X356 s)) (x2 : Int) (G : St) : SS (MTw_statement P W) (lk X356 some) 356 [(0, aR 100), (1, aI x1), (2, aI x2)] [] G (Tw_statement_s356 P W x1 x2 G) := by
  refine r_iload_n 357 2 dX15_statement_356 rfl rfl rfl ?_
  refine r_aload_n 358 0 dX15_statement_357 rfl rfl rfl ?_
  refine r_aload_n 359 0 dX15_statement_358 rfl rfl rfl ?_
  refine r_get 362 (aR 154) dX15_statement_359 fkX15_105 (fun _ => dsT_100 P W _) nn100 rfl rfl ?_
  refine r_iload_n 363 1 dX15_statement_362 rfl rfl rfl ?_
  refine r_iald 364 dX15_statement_363 (fun _ _ _ => dsT_154 P W _) (fun _ _ => nn154) rfl ?_
  refine r_callvI 367 (Mc := MTw_widthOf P W) (o := 100) (as := [aI (G 154 x1)]) (st := [aI x2]) dX15_statement_364 rfl (c_Tw_widthOf P W (G 154 x1) G) lkX15_666 (cmTw_widthOf P W) rfl rfl rfl (fun _ => dsT_100 P W _) nn100 rfl (Nat.le_of_ble_eq_true rfl) (Nat.le_of_ble_eq_true rfl) (fun _ => rfl) rfl (fun z18 G19 => ?_)
  refine r_icmp_ge 406 370 dX15_statement_367 rfl rfl ?_ ?_
  · refine SS.ex ?_
    refine r_goto 756 dX15_statement_406 rfl ?_
    refine r_to [1] [(1, aI x1)] rfl ?_
    exact s_Tw_statement_b756 P W x1 G19
  · refine r_aload_n 371 0 dX15_statement_370 rfl rfl rfl ?_
    refine r_get 374 (aR 197) dX15_statement_371 fkX15_188 (fun _ => dsT_100 P W _) nn100 rfl rfl ?_
    refine r_bipush 376 32 dX15_statement_374 rfl rfl ?_
    refine r_aload_n 377 0 dX15_statement_376 rfl rfl rfl ?_
    refine r_get 380 (aR 152) dX15_statement_377 fkX15_99 (fun _ => dsT_100 P W _) nn100 rfl rfl ?_
    refine r_iload_n 381 1 dX15_statement_380 rfl rfl rfl ?_
    refine r_iald 382 dX15_statement_381 (fun _ _ _ => dsT_152 P W _) (fun _ _ => nn152) rfl ?_
    refine r_imul 383 dX15_statement_382 rfl ?_
    refine r_iload_n 384 2 dX15_statement_383 rfl rfl rfl ?_
    refine r_iadd 385 dX15_statement_384 rfl ?_
    refine r_aload_n 386 0 dX15_statement_385 rfl rfl rfl ?_
    refine r_get 389 (aR 185) dX15_statement_386 fkX15_158 (fun _ => dsT_100 P W _) nn100 rfl rfl ?_
    refine r_bipush 391 32 dX15_statement_389 rfl rfl ?_
    refine r_aload_n 392 0 dX15_statement_391 rfl rfl rfl ?_
    refine r_get 395 (aI (G19 100 85)) dX15_statement_392 fkX15_649 (fun _ => dsT_100 P W _) nn100 rfl rfl ?_
    refine r_imul 396 dX15_statement_395 rfl ?_
    refine r_iload_n 397 2 dX15_statement_396 rfl rfl rfl ?_
    refine r_iadd 398 dX15_statement_397 rfl ?_
    refine r_iald 399 dX15_statement_398 (fun _ _ _ => dsT_185 P W _) (fun _ _ => nn185) rfl ?_
    refine r_iast 400 dX15_statement_399 (fun _ _ _ => dsT_197 P W _) (fun _ _ => nn197) rfl ?_
    refine ss_tk (fun G20 => ?_)
    refine r_iinc 403 [(2, aI (x2 + 1)), (0, aR 100), (1, aI x1)] 2 dX15_statement_400 rfl rfl rfl rfl ?_
    refine r_goto 356 dX15_statement_403 rfl ?_
    refine r_to [1, 2, 0] [(0, aR 100), (1, aI x1), (2, aI (x2 + 1))] rfl ?_
    exact SS.back (hX356 (x2 + 1, G20))
theorem sl_Tw_statement_356 (P W : Int) (x1 : Int) (x2 : Int) (G : St) : SS (MTw_statement P W) some 356 [(0, aR 100), (1, aI x1), (2, aI x2)] [] G (Tw_statement_l356 P W x1 x2 G) := by
  exact SS.loop (σ := Int × St) (fun s => [(0, aR 100), (1, aI x1), (2, aI (s.1))]) (fun s => s.2) (fun s => Tw_statement_s356 P W x1 s.1 s.2) (fun X356 hX356 s => s_Tw_statement_s356 P W x1  X356 hX356 s.1 s.2) (x2, G)
theorem s_Tw_statement_b344 (P W : Int) (x1 : Int) (G : St) : SS (MTw_statement P W) some 344 [(0, aR 100), (1, aI x1)] [] G (Tw_statement_b344 P W x1 G) := by
  refine r_aload_n 345 0 dX15_statement_344 rfl rfl rfl ?_
  refine r_dup 346 dX15_statement_345 rfl rfl ?_
  refine r_get 349 (aI (G 100 85)) dX15_statement_346 fkX15_649 (fun _ => dsT_100 P W _) nn100 rfl rfl ?_
  refine r_iconst 350 1 dX15_statement_349 rfl rfl ?_
  refine r_isub 351 dX15_statement_350 rfl ?_
  refine r_putI 354 dX15_statement_351 fkX15_649 (fun _ => dsT_100 P W _) nn100 rfl rfl ?_
  refine ss_tk (fun G17 => ?_)
  refine r_iconst 355 0 dX15_statement_354 rfl rfl ?_
  refine r_istore_n 356 [(2, aI 0), (0, aR 100), (1, aI x1)] dX15_statement_355 rfl rfl rfl rfl ?_
  refine r_to [1, 2, 0] [(0, aR 100), (1, aI x1), (2, aI 0)] rfl ?_
  exact sl_Tw_statement_356 P W x1 0 G17
theorem s_Tw_statement_b409 (P W : Int) (x1 : Int) (G : St) : SS (MTw_statement P W) some 409 [(0, aR 100), (1, aI x1)] [] G (Tw_statement_b409 P W x1 G) := by
  refine r_aload_n 410 0 dX15_statement_409 rfl rfl rfl ?_
  refine r_iload_n 411 1 dX15_statement_410 rfl rfl rfl ?_
  refine r_callvV 414 (Mc := MTw_setElement P W) (o := 100) (as := [aI x1]) (st := []) dX15_statement_411 rfl (c_Tw_setElement P W x1 G) lkX15_756 (cmTw_setElement P W) rfl rfl rfl (fun _ => dsT_100 P W _) nn100 rfl (Nat.le_of_ble_eq_true rfl) (Nat.le_of_ble_eq_true rfl) (fun _ => rfl) rfl (fun z21 G22 => ?_)
  refine r_goto 756 dX15_statement_414 rfl ?_
  refine r_to [1] [(1, aI x1)] rfl ?_
  exact s_Tw_statement_b756 P W x1 G22
theorem s_Tw_statement_b462 (P W : Int) (x1 : Int) (G : St) : SS (MTw_statement P W) some 462 [(0, aR 100), (1, aI x1)] [] G (Tw_statement_b462 P W x1 G) := by
  refine r_aload_n 463 0 dX15_statement_462 rfl rfl rfl ?_
  refine r_dup 464 dX15_statement_463 rfl rfl ?_
  refine r_get 467 (aI (G 100 85)) dX15_statement_464 fkX15_649 (fun _ => dsT_100 P W _) nn100 rfl rfl ?_
  refine r_iconst 468 1 dX15_statement_467 rfl rfl ?_
  refine r_isub 469 dX15_statement_468 rfl ?_
  refine r_putI 472 dX15_statement_469 fkX15_649 (fun _ => dsT_100 P W _) nn100 rfl rfl ?_
  refine ss_tk (fun G23 => ?_)
  refine r_aload_n 473 0 dX15_statement_472 rfl rfl rfl ?_
  refine r_get 476 (aR 203) dX15_statement_473 fkX15_200 (fun _ => dsT_100 P W _) nn100 rfl rfl ?_
  refine r_aload_n 477 0 dX15_statement_476 rfl rfl rfl ?_
  refine r_get 480 (aI (G23 100 101)) dX15_statement_477 fkX15_678 (fun _ => dsT_100 P W _) nn100 rfl rfl ?_
  refine r_aload_n 481 0 dX15_statement_480 rfl rfl rfl ?_
  refine r_get 484 (aR 185) dX15_statement_481 fkX15_158 (fun _ => dsT_100 P W _) nn100 rfl rfl ?_
  refine r_bipush 486 32 dX15_statement_484 rfl rfl ?_
  refine r_aload_n 487 0 dX15_statement_486 rfl rfl rfl ?_
  refine r_get 490 (aI (G23 100 85)) dX15_statement_487 fkX15_649 (fun _ => dsT_100 P W _) nn100 rfl rfl ?_
  refine r_imul 491 dX15_statement_490 rfl ?_
  refine r_iald 492 dX15_statement_491 (fun _ _ _ => dsT_185 P W _) (fun _ _ => nn185) rfl ?_
  refine r_iast 493 dX15_statement_492 (fun _ _ _ => dsT_203 P W _) (fun _ _ => nn203) rfl ?_
  refine ss_tk (fun G24 => ?_)
  refine r_aload_n 494 0 dX15_statement_493 rfl rfl rfl ?_
  refine r_get 497 (aR 204) dX15_statement_494 fkX15_203 (fun _ => dsT_100 P W _) nn100 rfl rfl ?_
  refine r_aload_n 498 0 dX15_statement_497 rfl rfl rfl ?_
  refine r_get 501 (aI (G24 100 101)) dX15_statement_498 fkX15_678 (fun _ => dsT_100 P W _) nn100 rfl rfl ?_
  refine r_aload_n 502 0 dX15_statement_501 rfl rfl rfl ?_
  refine r_get 505 (aI (G24 100 97)) dX15_statement_502 fkX15_675 (fun _ => dsT_100 P W _) nn100 rfl rfl ?_
  refine r_iast 506 dX15_statement_505 (fun _ _ _ => dsT_204 P W _) (fun _ _ => nn204) rfl ?_
  refine ss_tk (fun G25 => ?_)
  refine r_aload_n 507 0 dX15_statement_506 rfl rfl rfl ?_
  refine r_get 510 (aR 205) dX15_statement_507 fkX15_206 (fun _ => dsT_100 P W _) nn100 rfl rfl ?_
  refine r_aload_n 511 0 dX15_statement_510 rfl rfl rfl ?_
  refine r_get 514 (aI (G25 100 101)) dX15_statement_511 fkX15_678 (fun _ => dsT_100 P W _) nn100 rfl rfl ?_
  refine r_iconst 515 0 dX15_statement_514 rfl rfl ?_
  refine r_zast 516 dX15_statement_515 (fun _ _ _ => dsT_205 P W _) (fun _ _ => nn205) rfl ?_
  refine ss_tk (fun G26 => ?_)
  refine r_aload_n 517 0 dX15_statement_516 rfl rfl rfl ?_
  refine r_aload_n 518 0 dX15_statement_517 rfl rfl rfl ?_
  refine r_get 521 (aR 206) dX15_statement_518 fkX15_210 (fun _ => dsT_100 P W _) nn100 rfl rfl ?_
  refine r_aload_n 522 0 dX15_statement_521 rfl rfl rfl ?_
  refine r_get 525 (aI (G26 100 101)) dX15_statement_522 fkX15_678 (fun _ => dsT_100 P W _) nn100 rfl rfl ?_
  refine r_callvV 528 (Mc := MTw_keepVars P W) (o := 100) (as := [aR 206, aI (G26 100 101)]) (st := []) dX15_statement_525 rfl (c_Tw_keepVars P W 206 (G26 100 101) G26) lkX15_746 (cmTw_keepVars P W) rfl rfl rfl (fun _ => dsT_100 P W _) nn100 rfl (Nat.le_of_ble_eq_true rfl) (Nat.le_of_ble_eq_true rfl) (fun _ => rfl) rfl (fun z27 G28 => ?_)
  refine r_aload_n 529 0 dX15_statement_528 rfl rfl rfl ?_
  refine r_dup 530 dX15_statement_529 rfl rfl ?_
  refine r_get 533 (aI (G28 100 101)) dX15_statement_530 fkX15_678 (fun _ => dsT_100 P W _) nn100 rfl rfl ?_
  refine r_iconst 534 1 dX15_statement_533 rfl rfl ?_
  refine r_iadd 535 dX15_statement_534 rfl ?_
  refine r_putI 538 dX15_statement_535 fkX15_678 (fun _ => dsT_100 P W _) nn100 rfl rfl ?_
  refine ss_tk (fun G29 => ?_)
  refine r_goto 756 dX15_statement_538 rfl ?_
  refine r_to [1] [(1, aI x1)] rfl ?_
  exact s_Tw_statement_b756 P W x1 G29
theorem s_Tw_statement_b541 (P W : Int) (x1 : Int) (G : St) : SS (MTw_statement P W) some 541 [(0, aR 100), (1, aI x1)] [] G (Tw_statement_b541 P W x1 G) := by
  refine r_aload_n 542 0 dX15_statement_541 rfl rfl rfl ?_
  refine r_aload_n 543 0 dX15_statement_542 rfl rfl rfl ?_
  refine r_get 546 (aR 204) dX15_statement_543 fkX15_203 (fun _ => dsT_100 P W _) nn100 rfl rfl ?_
  refine r_aload_n 547 0 dX15_statement_546 rfl rfl rfl ?_
  refine r_get 550 (aI (G 100 101)) dX15_statement_547 fkX15_678 (fun _ => dsT_100 P W _) nn100 rfl rfl ?_
  refine r_iconst 551 1 dX15_statement_550 rfl rfl ?_
  refine r_isub 552 dX15_statement_551 rfl ?_
  refine r_iald 553 dX15_statement_552 (fun _ _ _ => dsT_204 P W _) (fun _ _ => nn204) rfl ?_
  refine r_putI 556 dX15_statement_553 fkX15_675 (fun _ => dsT_100 P W _) nn100 rfl rfl ?_
  refine ss_tk (fun G30 => ?_)
  refine r_aload_n 557 0 dX15_statement_556 rfl rfl rfl ?_
  refine r_get 560 (aR 205) dX15_statement_557 fkX15_206 (fun _ => dsT_100 P W _) nn100 rfl rfl ?_
  refine r_aload_n 561 0 dX15_statement_560 rfl rfl rfl ?_
  refine r_get 564 (aI (G30 100 101)) dX15_statement_561 fkX15_678 (fun _ => dsT_100 P W _) nn100 rfl rfl ?_
  refine r_iconst 565 1 dX15_statement_564 rfl rfl ?_
  refine r_isub 566 dX15_statement_565 rfl ?_
  refine r_iconst 567 1 dX15_statement_566 rfl rfl ?_
  refine r_zast 568 dX15_statement_567 (fun _ _ _ => dsT_205 P W _) (fun _ _ => nn205) rfl ?_
  refine ss_tk (fun G31 => ?_)
  refine r_aload_n 569 0 dX15_statement_568 rfl rfl rfl ?_
  refine r_aload_n 570 0 dX15_statement_569 rfl rfl rfl ?_
  refine r_get 573 (aR 207) dX15_statement_570 fkX15_213 (fun _ => dsT_100 P W _) nn100 rfl rfl ?_
  refine r_aload_n 574 0 dX15_statement_573 rfl rfl rfl ?_
  refine r_get 577 (aI (G31 100 101)) dX15_statement_574 fkX15_678 (fun _ => dsT_100 P W _) nn100 rfl rfl ?_
  refine r_iconst 578 1 dX15_statement_577 rfl rfl ?_
  refine r_isub 579 dX15_statement_578 rfl ?_
  refine r_callvV 582 (Mc := MTw_keepVars P W) (o := 100) (as := [aR 207, aI ((G31 100 101) - 1)]) (st := []) dX15_statement_579 rfl (c_Tw_keepVars P W 207 ((G31 100 101) - 1) G31) lkX15_746 (cmTw_keepVars P W) rfl rfl rfl (fun _ => dsT_100 P W _) nn100 rfl (Nat.le_of_ble_eq_true rfl) (Nat.le_of_ble_eq_true rfl) (fun _ => rfl) rfl (fun z32 G33 => ?_)
  refine r_aload_n 583 0 dX15_statement_582 rfl rfl rfl ?_
  refine r_aload_n 584 0 dX15_statement_583 rfl rfl rfl ?_
  refine r_get 587 (aR 206) dX15_statement_584 fkX15_210 (fun _ => dsT_100 P W _) nn100 rfl rfl ?_
  refine r_aload_n 588 0 dX15_statement_587 rfl rfl rfl ?_
  refine r_get 591 (aI (G33 100 101)) dX15_statement_588 fkX15_678 (fun _ => dsT_100 P W _) nn100 rfl rfl ?_
  refine r_iconst 592 1 dX15_statement_591 rfl rfl ?_
  refine r_isub 593 dX15_statement_592 rfl ?_
  refine r_callvV 596 (Mc := MTw_bringVars P W) (o := 100) (as := [aR 206, aI ((G33 100 101) - 1)]) (st := []) dX15_statement_593 rfl (c_Tw_bringVars P W 206 ((G33 100 101) - 1) G33) lkX15_750 (cmTw_bringVars P W) rfl rfl rfl (fun _ => dsT_100 P W _) nn100 rfl (Nat.le_of_ble_eq_true rfl) (Nat.le_of_ble_eq_true rfl) (fun _ => rfl) rfl (fun z34 G35 => ?_)
  refine r_goto 756 dX15_statement_596 rfl ?_
  refine r_to [1] [(1, aI x1)] rfl ?_
  exact s_Tw_statement_b756 P W x1 G35
theorem s_Tw_statement_b599 (P W : Int) (x1 : Int) (G : St) : SS (MTw_statement P W) some 599 [(0, aR 100), (1, aI x1)] [] G (Tw_statement_b599 P W x1 G) := by
  refine r_aload_n 600 0 dX15_statement_599 rfl rfl rfl ?_
  refine r_callvV 603 (Mc := MTw_endOfIf P W) (o := 100) (as := []) (st := []) dX15_statement_600 rfl (c_Tw_endOfIf P W G) lkX15_759 (cmTw_endOfIf P W) rfl rfl rfl (fun _ => dsT_100 P W _) nn100 rfl (Nat.le_of_ble_eq_true rfl) (Nat.le_of_ble_eq_true rfl) (fun _ => rfl) rfl (fun z36 G37 => ?_)
  refine r_goto 756 dX15_statement_603 rfl ?_
  refine r_to [1] [(1, aI x1)] rfl ?_
  exact s_Tw_statement_b756 P W x1 G37
theorem s_Tw_statement_b606 (P W : Int) (x1 : Int) (G : St) : SS (MTw_statement P W) some 606 [(0, aR 100), (1, aI x1)] [] G (Tw_statement_b606 P W x1 G) := by
  refine r_aload_n 607 0 dX15_statement_606 rfl rfl rfl ?_
  refine r_aload_n 608 0 dX15_statement_607 rfl rfl rfl ?_
  refine r_get 611 (aI (G 100 85)) dX15_statement_608 fkX15_649 (fun _ => dsT_100 P W _) nn100 rfl rfl ?_
  refine r_iconst 612 1 dX15_statement_611 rfl rfl ?_
  refine r_isub 613 dX15_statement_612 rfl ?_
  refine r_callvL 616 (Mc := MTw_worthOf P W) (o := 100) (as := [aI ((G 100 85) - 1)]) (st := []) dX15_statement_613 rfl (c_Tw_worthOf P W ((G 100 85) - 1) G) lkX15_712 (cmTw_worthOf P W) rfl rfl rfl (fun _ => dsT_100 P W _) nn100 rfl (Nat.le_of_ble_eq_true rfl) (Nat.le_of_ble_eq_true rfl) (fun _ => rfl) rfl (fun z38 G39 => ?_)
  refine r_lstore_n 617 [(2, aL z38), (0, aR 100), (1, aI x1)] dX15_statement_616 rfl rfl rfl rfl ?_
  refine r_aload_n 618 1 dX15_statement_617 rfl rfl rfl ?_
  refine r_aload_n 619 1 dX15_statement_618 rfl rfl rfl ?_
  refine r_get 622 (aI (G39 100 85)) dX15_statement_619 fkX15_649 (fun _ => dsT_100 P W _) nn100 rfl rfl ?_
  refine r_iconst 623 2 dX15_statement_622 rfl rfl ?_
  refine r_isub 624 dX15_statement_623 rfl ?_
  refine r_callvL 627 (Mc := MTw_worthOf P W) (o := 100) (as := [aI ((G39 100 85) - 2)]) (st := []) dX15_statement_624 rfl (c_Tw_worthOf P W ((G39 100 85) - 2) G39) lkX15_712 (cmTw_worthOf P W) rfl rfl rfl (fun _ => dsT_100 P W _) nn100 rfl (Nat.le_of_ble_eq_true rfl) (Nat.le_of_ble_eq_true rfl) (fun _ => rfl) rfl (fun z40 G41 => ?_)
  refine r_lstore 629 [(4, aL z40), (2, aL z38), (0, aR 100), (1, aI x1)] dX15_statement_627 rfl rfl rfl ?_
  refine r_aload_n 630 2 dX15_statement_629 rfl rfl rfl ?_
  refine r_dup 631 dX15_statement_630 rfl rfl ?_
  refine r_get 634 (aI (G41 100 85)) dX15_statement_631 fkX15_649 (fun _ => dsT_100 P W _) nn100 rfl rfl ?_
  refine r_iconst 635 2 dX15_statement_634 rfl rfl ?_
  refine r_isub 636 dX15_statement_635 rfl ?_
  refine r_putI 639 dX15_statement_636 fkX15_649 (fun _ => dsT_100 P W _) nn100 rfl rfl ?_
  refine ss_tk (fun G42 => ?_)
  refine r_lload 641 0 dX15_statement_639 rfl rfl ?_
  refine r_lload_n 642 1 dX15_statement_641 rfl rfl rfl ?_
  refine r_lif_le 643 655 646 dX15_statement_642 rfl dX15_statement_643 rfl rfl ?_ ?_
  · refine r_lload_n 656 1 dX15_statement_655 rfl rfl rfl ?_
    refine r_lload 658 0 dX15_statement_656 rfl rfl ?_
    refine r_lsub 659 dX15_statement_658 rfl ?_
    refine r_ldc2 662 255 dX15_statement_659 q2541 (by decide) rfl rfl ?_
    refine r_lif_le 663 681 666 dX15_statement_662 rfl dX15_statement_663 rfl rfl ?_ ?_
    · refine r_aload_n 682 2 dX15_statement_681 rfl rfl rfl ?_
      refine r_get 685 (aR 208) dX15_statement_682 fkX15_216 (fun _ => dsT_100 P W _) nn100 rfl rfl ?_
      refine r_iload_n 686 3 dX15_statement_685 rfl rfl rfl ?_
      refine r_lload 688 0 dX15_statement_686 rfl rfl ?_
      refine r_last 689 dX15_statement_688 (fun _ _ _ => dsT_208 P W _) (fun _ _ => nn208) rfl ?_
      refine ss_tk (fun G43 => ?_)
      refine r_aload_n 690 2 dX15_statement_689 rfl rfl rfl ?_
      refine r_get 693 (aR 209) dX15_statement_690 fkX15_219 (fun _ => dsT_100 P W _) nn100 rfl rfl ?_
      refine r_iload_n 694 3 dX15_statement_693 rfl rfl rfl ?_
      refine r_lload_n 695 1 dX15_statement_694 rfl rfl rfl ?_
      refine r_last 696 dX15_statement_695 (fun _ _ _ => dsT_209 P W _) (fun _ _ => nn209) rfl ?_
      refine ss_tk (fun G44 => ?_)
      refine r_aload_n 697 2 dX15_statement_696 rfl rfl rfl ?_
      refine r_get 700 (aR 210) dX15_statement_697 fkX15_222 (fun _ => dsT_100 P W _) nn100 rfl rfl ?_
      refine r_iload_n 701 3 dX15_statement_700 rfl rfl rfl ?_
      refine r_aload_n 702 2 dX15_statement_701 rfl rfl rfl ?_
      refine r_get 705 (aI (G44 100 97)) dX15_statement_702 fkX15_675 (fun _ => dsT_100 P W _) nn100 rfl rfl ?_
      refine r_iast 706 dX15_statement_705 (fun _ _ _ => dsT_210 P W _) (fun _ _ => nn210) rfl ?_
      refine ss_tk (fun G45 => ?_)
      refine r_goto 756 dX15_statement_706 rfl ?_
      refine r_to [3] [(1, aI x1)] rfl ?_
      exact s_Tw_statement_b756 P W x1 G45
    · refine r_aload_n 667 2 dX15_statement_666 rfl rfl rfl ?_
      refine r_bipush 669 7 dX15_statement_667 rfl rfl ?_
      refine r_aload_n 670 2 dX15_statement_669 rfl rfl rfl ?_
      refine r_get 673 (aR 118) dX15_statement_670 fkX15_31 (fun _ => dsT_100 P W _) nn100 rfl rfl ?_
      refine r_iload_n 674 3 dX15_statement_673 rfl rfl rfl ?_
      refine r_iald 675 dX15_statement_674 (fun _ _ _ => dsT_118 P W _) (fun _ _ => nn118) rfl ?_
      refine r_callvV 678 (Mc := MTw_fail P W) (o := 100) (as := [aI 7, aI (G42 118 x1)]) (st := []) dX15_statement_675 rfl (c_Tw_fail P W 7 (G42 118 x1) G42) lkX15_390 (cmTw_fail P W) rfl rfl rfl (fun _ => dsT_100 P W _) nn100 rfl (Nat.le_of_ble_eq_true rfl) (Nat.le_of_ble_eq_true rfl) (fun _ => rfl) rfl (fun z46 G47 => ?_)
      refine r_goto 756 dX15_statement_678 rfl ?_
      refine r_to [3] [(1, aI x1)] rfl ?_
      exact s_Tw_statement_b756 P W x1 G47
  · refine r_aload_n 647 2 dX15_statement_646 rfl rfl rfl ?_
    refine r_get 650 (aR 117) dX15_statement_647 fkX15_28 (fun _ => dsT_100 P W _) nn100 rfl rfl ?_
    refine r_iload_n 651 3 dX15_statement_650 rfl rfl rfl ?_
    refine r_iald 652 dX15_statement_651 (fun _ _ _ => dsT_117 P W _) (fun _ _ => nn117) rfl ?_
    refine r_iconst 653 1 dX15_statement_652 rfl rfl ?_
    refine r_iadd 654 dX15_statement_653 rfl ?_
    exact r_ireturn dX15_statement_654 rfl
theorem s_Tw_statement_b709 (P W : Int) (x1 : Int) (G : St) : SS (MTw_statement P W) some 709 [(0, aR 100), (1, aI x1)] [] G (Tw_statement_b709 P W x1 G) := by
  refine r_aload_n 710 0 dX15_statement_709 rfl rfl rfl ?_
  refine r_get 713 (aR 116) dX15_statement_710 fkX15_25 (fun _ => dsT_100 P W _) nn100 rfl rfl ?_
  refine r_iload_n 714 1 dX15_statement_713 rfl rfl rfl ?_
  refine r_iald 715 dX15_statement_714 (fun _ _ _ => dsT_116 P W _) (fun _ _ => nn116) rfl ?_
  refine r_istore_n 716 [(2, aI (G 116 x1)), (0, aR 100), (1, aI x1)] dX15_statement_715 rfl rfl rfl rfl ?_
  refine r_aload_n 717 1 dX15_statement_716 rfl rfl rfl ?_
  refine r_aload_n 718 1 dX15_statement_717 rfl rfl rfl ?_
  refine r_get 721 (aR 210) dX15_statement_718 fkX15_222 (fun _ => dsT_100 P W _) nn100 rfl rfl ?_
  refine r_iload_n 722 0 dX15_statement_721 rfl rfl rfl ?_
  refine r_iald 723 dX15_statement_722 (fun _ _ _ => dsT_210 P W _) (fun _ _ => nn210) rfl ?_
  refine r_putI 726 dX15_statement_723 fkX15_675 (fun _ => dsT_100 P W _) nn100 rfl rfl ?_
  refine ss_tk (fun G48 => ?_)
  refine r_aload_n 727 1 dX15_statement_726 rfl rfl rfl ?_
  refine r_get 730 (aR 208) dX15_statement_727 fkX15_216 (fun _ => dsT_100 P W _) nn100 rfl rfl ?_
  refine r_iload_n 731 0 dX15_statement_730 rfl rfl rfl ?_
  refine r_lald 732 dX15_statement_731 (fun _ _ _ => dsT_208 P W _) (fun _ _ => nn208) rfl ?_
  refine r_aload_n 733 1 dX15_statement_732 rfl rfl rfl ?_
  refine r_get 736 (aR 209) dX15_statement_733 fkX15_219 (fun _ => dsT_100 P W _) nn100 rfl rfl ?_
  refine r_iload_n 737 0 dX15_statement_736 rfl rfl rfl ?_
  refine r_lald 738 dX15_statement_737 (fun _ _ _ => dsT_209 P W _) (fun _ _ => nn209) rfl ?_
  refine r_lif_ge 739 756 742 dX15_statement_738 rfl dX15_statement_739 rfl rfl ?_ ?_
  · refine r_to [2] [(1, aI x1)] rfl ?_
    exact s_Tw_statement_b756 P W x1 G48
  · refine r_aload_n 743 1 dX15_statement_742 rfl rfl rfl ?_
    refine r_get 746 (aR 208) dX15_statement_743 fkX15_216 (fun _ => dsT_100 P W _) nn100 rfl rfl ?_
    refine r_iload_n 747 0 dX15_statement_746 rfl rfl rfl ?_
    refine r_dup2 748 dX15_statement_747 rfl rfl rfl ?_
    refine r_lald 749 dX15_statement_748 (fun _ _ _ => dsT_208 P W _) (fun _ _ => nn208) rfl ?_
    refine r_lconst 750 1 dX15_statement_749 rfl rfl rfl ?_
    refine r_ladd 751 dX15_statement_750 rfl ?_
    refine r_last 752 dX15_statement_751 (fun _ _ _ => dsT_208 P W _) (fun _ _ => nn208) rfl ?_
    refine ss_tk (fun G49 => ?_)
    refine r_iload_n 753 0 dX15_statement_752 rfl rfl rfl ?_
    refine r_iconst 754 1 dX15_statement_753 rfl rfl ?_
    refine r_iadd 755 dX15_statement_754 rfl ?_
    exact r_ireturn dX15_statement_755 rfl
theorem s_Tw_statement_b417 (P W : Int) (x1 : Int) (G : St) : SS (MTw_statement P W) some 417 [(0, aR 100), (1, aI x1)] [] G (Tw_statement_b417 P W x1 G) := by
  refine r_aload_n 418 0 dX15_statement_417 rfl rfl rfl ?_
  refine r_get 421 (aR 156) dX15_statement_418 fkX15_111 (fun _ => dsT_100 P W _) nn100 rfl rfl ?_
  refine r_iload_n 422 1 dX15_statement_421 rfl rfl rfl ?_
  refine r_zald 423 dX15_statement_422 (fun _ _ _ => dsT_156 P W _) (fun _ _ => nn156) rfl ?_
  refine r_if_eq 756 426 dX15_statement_423 rfl rfl ?_ ?_
  · refine r_to [1] [(1, aI x1)] rfl ?_
    exact s_Tw_statement_b756 P W x1 G
  · refine r_aload_n 427 0 dX15_statement_426 rfl rfl rfl ?_
    refine r_aload_n 428 0 dX15_statement_427 rfl rfl rfl ?_
    refine r_get 431 (aI (G 100 85)) dX15_statement_428 fkX15_649 (fun _ => dsT_100 P W _) nn100 rfl rfl ?_
    refine r_iconst 432 1 dX15_statement_431 rfl rfl ?_
    refine r_isub 433 dX15_statement_432 rfl ?_
    refine r_callvL 436 (Mc := MTw_worthOf P W) (o := 100) (as := [aI ((G 100 85) - 1)]) (st := []) dX15_statement_433 rfl (c_Tw_worthOf P W ((G 100 85) - 1) G) lkX15_712 (cmTw_worthOf P W) rfl rfl rfl (fun _ => dsT_100 P W _) nn100 rfl (Nat.le_of_ble_eq_true rfl) (Nat.le_of_ble_eq_true rfl) (fun _ => rfl) rfl (fun z50 G51 => ?_)
    refine r_aload_n 437 0 dX15_statement_436 rfl rfl rfl ?_
    refine r_get 440 (aR 153) dX15_statement_437 fkX15_102 (fun _ => dsT_100 P W _) nn100 rfl rfl ?_
    refine r_iload_n 441 1 dX15_statement_440 rfl rfl rfl ?_
    refine r_iald 442 dX15_statement_441 (fun _ _ _ => dsT_153 P W _) (fun _ _ => nn153) rfl ?_
    refine r_i2l 443 dX15_statement_442 rfl ?_
    refine r_lif_lt 444 756 447 dX15_statement_443 rfl dX15_statement_444 rfl rfl ?_ ?_
    · refine r_to [1] [(1, aI x1)] rfl ?_
      exact s_Tw_statement_b756 P W x1 G51
    · refine r_aload_n 448 0 dX15_statement_447 rfl rfl rfl ?_
      refine r_bipush 450 7 dX15_statement_448 rfl rfl ?_
      refine r_aload_n 451 0 dX15_statement_450 rfl rfl rfl ?_
      refine r_get 454 (aR 155) dX15_statement_451 fkX15_108 (fun _ => dsT_100 P W _) nn100 rfl rfl ?_
      refine r_iload_n 455 1 dX15_statement_454 rfl rfl rfl ?_
      refine r_iald 456 dX15_statement_455 (fun _ _ _ => dsT_155 P W _) (fun _ _ => nn155) rfl ?_
      refine r_callvV 459 (Mc := MTw_fail P W) (o := 100) (as := [aI 7, aI (G51 155 x1)]) (st := []) dX15_statement_456 rfl (c_Tw_fail P W 7 (G51 155 x1) G51) lkX15_390 (cmTw_fail P W) rfl rfl rfl (fun _ => dsT_100 P W _) nn100 rfl (Nat.le_of_ble_eq_true rfl) (Nat.le_of_ble_eq_true rfl) (fun _ => rfl) rfl (fun z52 G53 => ?_)
      refine r_goto 756 dX15_statement_459 rfl ?_
      refine r_to [1] [(1, aI x1)] rfl ?_
      exact s_Tw_statement_b756 P W x1 G53
theorem s_Tw_statement (P W : Int) (x1 : Int) (G : St) : SS (MTw_statement P W) some 0 [(0, aR 100), (1, aI x1)] [] G (Tw_statement P W x1 G) := by
  refine r_aload_n 1 0 dX15_statement_0 rfl rfl rfl ?_
  refine r_get 4 (aR 115) dX15_statement_1 fkX15_22 (fun _ => dsT_100 P W _) nn100 rfl rfl ?_
  refine r_iload_n 5 1 dX15_statement_4 rfl rfl rfl ?_
  refine r_iald 6 dX15_statement_5 (fun _ _ _ => dsT_115 P W _) (fun _ _ => nn115) rfl ?_
  refine r_tsw 756 [(112, Tw_statement_b112 P W x1 G), (144, Tw_statement_b144 P W x1 G), (756, Tw_statement_b756 P W x1 G), (756, Tw_statement_b756 P W x1 G), (756, Tw_statement_b756 P W x1 G), (157, Tw_statement_b157 P W x1 G), (165, Tw_statement_b165 P W x1 G), (756, Tw_statement_b756 P W x1 G), (756, Tw_statement_b756 P W x1 G), (175, Tw_statement_b175 P W G), (253, Tw_statement_b253 P W x1 G), (756, Tw_statement_b756 P W x1 G), (344, Tw_statement_b344 P W x1 G), (756, Tw_statement_b756 P W x1 G), (409, Tw_statement_b409 P W x1 G), (462, Tw_statement_b462 P W x1 G), (541, Tw_statement_b541 P W x1 G), (599, Tw_statement_b599 P W x1 G), (756, Tw_statement_b756 P W x1 G), (606, Tw_statement_b606 P W x1 G), (709, Tw_statement_b709 P W x1 G), (756, Tw_statement_b756 P W x1 G), (417, Tw_statement_b417 P W x1 G)] dX15_statement_6 rfl rfl rfl ⟨?_, ?_, ?_, ?_, ?_, ?_, ?_, ?_, ?_, ?_, ?_, ?_, ?_, ?_, ?_, ?_, ?_, ?_, ?_, ?_, ?_, ?_, ?_, trivial⟩ ?_
  · exact s_Tw_statement_b112 P W x1 G
  · exact s_Tw_statement_b144 P W x1 G
  · refine r_to [1] [(1, aI x1)] rfl ?_
    exact s_Tw_statement_b756 P W x1 G
  · refine r_to [1] [(1, aI x1)] rfl ?_
    exact s_Tw_statement_b756 P W x1 G
  · refine r_to [1] [(1, aI x1)] rfl ?_
    exact s_Tw_statement_b756 P W x1 G
  · exact s_Tw_statement_b157 P W x1 G
  · exact s_Tw_statement_b165 P W x1 G
  · refine r_to [1] [(1, aI x1)] rfl ?_
    exact s_Tw_statement_b756 P W x1 G
  · refine r_to [1] [(1, aI x1)] rfl ?_
    exact s_Tw_statement_b756 P W x1 G
  · refine r_to [0] [(0, aR 100)] rfl ?_
    exact s_Tw_statement_b175 P W G
  · exact s_Tw_statement_b253 P W x1 G
  · refine r_to [1] [(1, aI x1)] rfl ?_
    exact s_Tw_statement_b756 P W x1 G
  · exact s_Tw_statement_b344 P W x1 G
  · refine r_to [1] [(1, aI x1)] rfl ?_
    exact s_Tw_statement_b756 P W x1 G
  · exact s_Tw_statement_b409 P W x1 G
  · exact s_Tw_statement_b462 P W x1 G
  · exact s_Tw_statement_b541 P W x1 G
  · exact s_Tw_statement_b599 P W x1 G
  · refine r_to [1] [(1, aI x1)] rfl ?_
    exact s_Tw_statement_b756 P W x1 G
  · exact s_Tw_statement_b606 P W x1 G
  · exact s_Tw_statement_b709 P W x1 G
  · refine r_to [1] [(1, aI x1)] rfl ?_
    exact s_Tw_statement_b756 P W x1 G
  · exact s_Tw_statement_b417 P W x1 G
  · refine r_to [1] [(1, aI x1)] rfl ?_
    exact s_Tw_statement_b756 P W x1 G
theorem c_Tw_statement (P W : Int) (x1 : Int) (G : St) : MG (MTw_statement P W) [aR 100, aI x1] G (Tw_statement P W x1 G) := MG.of plX15 (Nat.le_of_ble_eq_true rfl) (s_Tw_statement P W x1 G)
