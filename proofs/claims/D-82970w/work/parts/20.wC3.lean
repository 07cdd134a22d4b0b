set_option maxRecDepth 100000
theorem s_Ho_cutInputs_b127 (P W : Int) (X2 : Int × St → Option (Int × St)) (hX2 : ∀ s, So (MHo_cutInputs P W) 2 [(0, aR 100), (1, aI (s.1))] [] s.2 (X2 s)) (x1 : Int) (X15 : Int × St → Option (Int × St)) (hX15 : ∀ s, So (MHo_cutInputs P W) 15 [(0, aR 100), (1, aI x1), (2, aI (s.1))] [] s.2 (X15 s)) (x2 : Int) (x3 : Int) (x4 : Int) (X76 : Int × Int × St → Option (Int × St)) (hX76 : ∀ s, So (MHo_cutInputs P W) 76 [(0, aR 100), (1, aI x1), (2, aI x2), (3, aI x3), (4, aI x4), (5, aI (s.1)), (6, aI (s.2.1))] [] s.2.2 (X76 s)) (x5 : Int) (x6 : Int) (G : St) : SS (MHo_cutInputs P W) (lk X76 (lk X15 (lk X2 some))) 127 [(0, aR 100), (1, aI x1), (2, aI x2), (3, aI x3), (4, aI x4), (5, aI x5), (6, aI x6)] [] G (Ho_cutInputs_b127 P W x1 x2 x3 x4 x5 x6 G) := by
  refine r_iinc 130 [(6, aI (x6 + 1)), (0, aR 100), (1, aI x1), (2, aI x2), (3, aI x3), (4, aI x4), (5, aI x5)] 6 dX1_cutInputs_127 rfl rfl rfl rfl ?_
  refine r_goto 76 dX1_cutInputs_130 rfl ?_
  refine r_to [1, 2, 3, 4, 5, 6, 0] [(0, aR 100), (1, aI x1), (2, aI x2), (3, aI x3), (4, aI x4), (5, aI x5), (6, aI (x6 + 1))] rfl ?_
  exact SS.back (hX76 (x5, x6 + 1, G))
theorem s_Ho_cutInputs_s76 (P W : Int) (X2 : Int × St → Option (Int × St)) (hX2 : ∀ s, So (MHo_cutInputs P W) 2 [(0, aR 100), (1, aI (s.1))] [] s.2 (X2 s)) (x1 : Int) (X15 : Int × St → Option (Int × St)) (hX15 : ∀ s, So (MHo_cutInputs P W) 15 [(0, aR 100), (1, aI x1), (2, aI (s.1))] [] s.2 (X15 s)) (x2 : Int) (x3 : Int) (x4 : Int) (X76 : Int × Int × St → Option (Int × St)) (hX76 : ∀ s, So (MHo_cutInputs P W) 76 [(0, aR 100), (1, aI x1), (2, aI x2), (3, aI x3), (4, aI x4), (5, aI (s.1)), (6, aI (s.2.1))] [] s.2.2 (X76 s)) (x5 : Int) (x6 : Int) (G : St) : SS (MHo_cutInputs P W) (lk X76 (lk X15 (lk X2 some))) 76 [(0, aR 100), (1, aI x1), (2, aI x2), (3, aI x3), (4, aI x4), (5, aI x5), (6, aI x6)] [] G (Ho_cutInputs_s76 P W x1 x2 x3 x4 x5 x6 G) := by
  refine r_iload 78 6 dX1_cutInputs_76 rfl rfl ?_
  refine r_aload_n 79 0 dX1_cutInputs_78 rfl rfl rfl ?_
  refine r_get 82 (aI P) dX1_cutInputs_79 fkX1_77 (fun _ => dsC_100 P W _) nn100 rfl rfl ?_
  refine r_icmp_ge 133 85 dX1_cutInputs_82 rfl rfl ?_ ?_
  · refine SS.ex ?_
    refine r_aload_n 134 0 dX1_cutInputs_133 rfl rfl rfl ?_
    refine r_get 137 (aR 103) dX1_cutInputs_134 fkX1_122 (fun _ => dsC_100 P W _) nn100 rfl rfl ?_
    refine r_iload 139 4 dX1_cutInputs_137 rfl rfl ?_
    refine r_aald8q 140 dX1_cutInputs_139 (fun _ _ _ => dsC_103 P W _) (fun _ _ => nn103) rfl (fun p3 hp3 => ?_)
    refine r_get 143 (aR (1000 + 32 * p3 + 3)) dX1_cutInputs_140 fkX1_275 (fun h => party_c P W hp3 h) (party_n hp3) rfl rfl ?_
    refine r_iload_n 144 3 dX1_cutInputs_143 rfl rfl rfl ?_
    refine r_iload 146 5 dX1_cutInputs_144 rfl rfl ?_
    refine r_callvV 149 (Mc := MBt_set P W) (o := 1000 + 32 * p3 + 3) (as := [aI x3, aI x5]) (st := []) dX1_cutInputs_146 rfl (c_Bt_set P W (1000 + 32 * p3 + 3) (isB_p3 hp3) x3 x5 G) lkX1_268 (cmBt_set P W) rfl rfl rfl (fun h => isB_c P W (isB_p3 hp3) h) (isB_n (isB_p3 hp3)) rfl (Nat.le_of_ble_eq_true rfl) (Nat.le_of_ble_eq_true rfl) (fun _ => rfl) rfl (fun z4 G5 => ?_)
    refine r_iinc 152 [(2, aI (x2 + 1)), (0, aR 100), (1, aI x1), (3, aI x3), (4, aI x4), (5, aI x5), (6, aI x6)] 2 dX1_cutInputs_149 rfl rfl rfl rfl ?_
    refine r_goto 15 dX1_cutInputs_152 rfl ?_
    refine r_to [1, 2, 0] [(0, aR 100), (1, aI x1), (2, aI (x2 + 1))] rfl ?_
    exact SS.back (hX15 (x2 + 1, G5))
  · refine r_iload 87 6 dX1_cutInputs_85 rfl rfl ?_
    refine r_iload 89 4 dX1_cutInputs_87 rfl rfl ?_
    refine r_icmp_ne 95 92 dX1_cutInputs_89 rfl rfl ?_ ?_
    · refine r_aload_n 96 0 dX1_cutInputs_95 rfl rfl rfl ?_
      refine r_get 99 (aR 240) dX1_cutInputs_96 fkX1_47 (fun _ => dsC_100 P W _) nn100 rfl rfl ?_
      refine r_callvI 102 (Mc := MDr_draw P W) (o := 240) (as := []) (st := []) dX1_cutInputs_99 rfl (c_Dr_draw P W G) lkX1_272 (cmDr_draw P W) rfl rfl rfl (fun _ => dsC_240 P W _) nn240 rfl (Nat.le_of_ble_eq_true rfl) (Nat.le_of_ble_eq_true rfl) (fun _ => rfl) rfl (fun z6 G7 => ?_)
      refine r_istore 104 [(7, aI z6), (0, aR 100), (1, aI x1), (2, aI x2), (3, aI x3), (4, aI x4), (5, aI x5), (6, aI x6)] dX1_cutInputs_102 rfl rfl rfl ?_
      refine r_aload_n 105 1 dX1_cutInputs_104 rfl rfl rfl ?_
      refine r_get 108 (aR 103) dX1_cutInputs_105 fkX1_122 (fun _ => dsC_100 P W _) nn100 rfl rfl ?_
      refine r_iload 110 7 dX1_cutInputs_108 rfl rfl ?_
      refine r_aald8q 111 dX1_cutInputs_110 (fun _ _ _ => dsC_103 P W _) (fun _ _ => nn103) rfl (fun p8 hp8 => ?_)
      refine r_get 114 (aR (1000 + 32 * p8 + 3)) dX1_cutInputs_111 fkX1_275 (fun h => party_c P W hp8 h) (party_n hp8) rfl rfl ?_
      refine r_iload_n 115 4 dX1_cutInputs_114 rfl rfl rfl ?_
      refine r_iload 117 0 dX1_cutInputs_115 rfl rfl ?_
      refine r_callvV 120 (Mc := MBt_set P W) (o := 1000 + 32 * p8 + 3) (as := [aI x3, aI z6]) (st := []) dX1_cutInputs_117 rfl (c_Bt_set P W (1000 + 32 * p8 + 3) (isB_p3 hp8) x3 z6 G7) lkX1_268 (cmBt_set P W) rfl rfl rfl (fun h => isB_c P W (isB_p3 hp8) h) (isB_n (isB_p3 hp8)) rfl (Nat.le_of_ble_eq_true rfl) (Nat.le_of_ble_eq_true rfl) (fun _ => rfl) rfl (fun z9 G10 => ?_)
      refine r_iload 122 6 dX1_cutInputs_120 rfl rfl ?_
      refine r_iload 124 0 dX1_cutInputs_122 rfl rfl ?_
      refine r_ixor 125 dX1_cutInputs_124 rfl ?_
      refine r_istore 127 [(5, aI (j_xo x5 z6)), (7, aI z6), (0, aR 100), (1, aI x1), (2, aI x2), (3, aI x3), (4, aI x4), (6, aI x6)] dX1_cutInputs_125 rfl rfl rfl ?_
      refine r_to [2, 3, 4, 5, 6, 0, 7] [(0, aR 100), (1, aI x1), (2, aI x2), (3, aI x3), (4, aI x4), (5, aI (j_xo x5 z6)), (6, aI x6)] rfl ?_
      exact s_Ho_cutInputs_b127 P W X2 hX2 x1 X15 hX15 x2 x3 x4 X76 hX76 (j_xo x5 z6) x6 G10
    · refine r_goto 127 dX1_cutInputs_92 rfl ?_
      exact s_Ho_cutInputs_b127 P W X2 hX2 x1 X15 hX15 x2 x3 x4 X76 hX76 x5 x6 G
theorem sl_Ho_cutInputs_76 (P W : Int) (X2 : Int × St → Option (Int × St)) (hX2 : ∀ s, So (MHo_cutInputs P W) 2 [(0, aR 100), (1, aI (s.1))] [] s.2 (X2 s)) (x1 : Int) (X15 : Int × St → Option (Int × St)) (hX15 : ∀ s, So (MHo_cutInputs P W) 15 [(0, aR 100), (1, aI x1), (2, aI (s.1))] [] s.2 (X15 s)) (x2 : Int) (x3 : Int) (x4 : Int) (x5 : Int) (x6 : Int) (G : St) : SS (MHo_cutInputs P W) (lk X15 (lk X2 some)) 76 [(0, aR 100), (1, aI x1), (2, aI x2), (3, aI x3), (4, aI x4), (5, aI x5), (6, aI x6)] [] G (Ho_cutInputs_l76 P W x1 x2 x3 x4 x5 x6 G) := by
  exact SS.loop (σ := Int × Int × St) (fun s => [(0, aR 100), (1, aI x1), (2, aI x2), (3, aI x3), (4, aI x4), (5, aI (s.1)), (6, aI (s.2.1))]) (fun s => s.2.2) (fun s => Ho_cutInputs_s76 P W x1 x2 x3 x4 s.1 s.2.1 s.2.2) (fun X76 hX76 s => s_Ho_cutInputs_s76 P W X2 hX2 x1 X15 hX15 x2 x3 x4  X76 hX76 s.1 s.2.1 s.2.2) (x5, x6, G)
theorem s_Ho_cutInputs_s15 (P W : Int) (X2 : Int × St → Option (Int × St)) (hX2 : ∀ s, So (MHo_cutInputs P W) 2 [(0, aR 100), (1, aI (s.1))] [] s.2 (X2 s)) (x1 : Int) (X15 : Int × St → Option (Int × St)) (hX15 : ∀ s, So (MHo_cutInputs P W) 15 [(0, aR 100), (1, aI x1), (2, aI (s.1))] [] s.2 (X15 s)) (x2 : Int) (G : St) : SS (MHo_cutInputs P W) (lk X15 (lk X2 some)) 15 [(0, aR 100), (1, aI x1), (2, aI x2)] [] G (Ho_cutInputs_s15 P W x1 x2 G) := by
  refine r_iload_n 16 2 dX1_cutInputs_15 rfl rfl rfl ?_
  refine r_aload_n 17 0 dX1_cutInputs_16 rfl rfl rfl ?_
  refine r_get 20 (aR 180) dX1_cutInputs_17 fkX1_107 (fun _ => dsC_100 P W _) nn100 rfl rfl ?_
  refine r_get 23 (aR 183) dX1_cutInputs_20 fkX1_259 (fun _ => dsC_180 P W _) nn180 rfl rfl ?_
  refine r_iload_n 24 1 dX1_cutInputs_23 rfl rfl rfl ?_
  refine r_iald 25 dX1_cutInputs_24 (fun _ _ _ => dsC_183 P W _) (fun _ _ => nn183) rfl ?_
  refine r_icmp_ge 155 28 dX1_cutInputs_25 rfl rfl ?_ ?_
  · refine SS.ex ?_
    refine r_iinc 158 [(1, aI (x1 + 1)), (0, aR 100), (2, aI x2)] 1 dX1_cutInputs_155 rfl rfl rfl rfl ?_
    refine r_goto 2 dX1_cutInputs_158 rfl ?_
    refine r_to [1, 0] [(0, aR 100), (1, aI (x1 + 1))] rfl ?_
    exact SS.back (hX2 (x1 + 1, G))
  · refine r_aload_n 29 0 dX1_cutInputs_28 rfl rfl rfl ?_
    refine r_get 32 (aR 180) dX1_cutInputs_29 fkX1_107 (fun _ => dsC_100 P W _) nn100 rfl rfl ?_
    refine r_get 35 (aR 182) dX1_cutInputs_32 fkX1_266 (fun _ => dsC_180 P W _) nn180 rfl rfl ?_
    refine r_iload_n 36 1 dX1_cutInputs_35 rfl rfl rfl ?_
    refine r_iald 37 dX1_cutInputs_36 (fun _ _ _ => dsC_182 P W _) (fun _ _ => nn182) rfl ?_
    refine r_iload_n 38 2 dX1_cutInputs_37 rfl rfl rfl ?_
    refine r_iadd 39 dX1_cutInputs_38 rfl ?_
    refine r_istore_n 40 [(3, aI ((G 182 x1) + x2)), (0, aR 100), (1, aI x1), (2, aI x2)] dX1_cutInputs_39 rfl rfl rfl rfl ?_
    refine r_aload_n 41 1 dX1_cutInputs_40 rfl rfl rfl ?_
    refine r_get 44 (aR 180) dX1_cutInputs_41 fkX1_107 (fun _ => dsC_100 P W _) nn100 rfl rfl ?_
    refine r_get 47 (aR 184) dX1_cutInputs_44 fkX1_256 (fun _ => dsC_180 P W _) nn180 rfl rfl ?_
    refine r_iload_n 48 2 dX1_cutInputs_47 rfl rfl rfl ?_
    refine r_iald 49 dX1_cutInputs_48 (fun _ _ _ => dsC_184 P W _) (fun _ _ => nn184) rfl ?_
    refine r_istore 51 [(4, aI (G 184 x1)), (3, aI ((G 182 x1) + x2)), (0, aR 100), (1, aI x1), (2, aI x2)] dX1_cutInputs_49 rfl rfl rfl ?_
    refine r_aload_n 52 2 dX1_cutInputs_51 rfl rfl rfl ?_
    refine r_get 55 (aR 104) dX1_cutInputs_52 fkX1_51 (fun _ => dsC_100 P W _) nn100 rfl rfl ?_
    refine r_iload_n 56 3 dX1_cutInputs_55 rfl rfl rfl ?_
    refine r_iald 57 dX1_cutInputs_56 (fun _ _ _ => dsC_104 P W _) (fun _ _ => nn104) rfl ?_
    refine r_iload_n 58 4 dX1_cutInputs_57 rfl rfl rfl ?_
    refine r_ishr 59 dX1_cutInputs_58 rfl ?_
    refine r_iconst 60 1 dX1_cutInputs_59 rfl rfl ?_
    refine r_iand 61 dX1_cutInputs_60 rfl ?_
    refine r_istore 63 [(5, aI (j_an (j_sr (G 104 x1) x2) 1)), (4, aI (G 184 x1)), (3, aI ((G 182 x1) + x2)), (0, aR 100), (1, aI x1), (2, aI x2)] dX1_cutInputs_61 rfl rfl rfl ?_
    refine r_aload_n 64 3 dX1_cutInputs_63 rfl rfl rfl ?_
    refine r_get 67 (aR 105) dX1_cutInputs_64 fkX1_60 (fun _ => dsC_100 P W _) nn100 rfl rfl ?_
    refine r_iload_n 68 2 dX1_cutInputs_67 rfl rfl rfl ?_
    refine r_iload 70 0 dX1_cutInputs_68 rfl rfl ?_
    refine r_callvV 73 (Mc := MBt_set P W) (o := 105) (as := [aI ((G 182 x1) + x2), aI (j_an (j_sr (G 104 x1) x2) 1)]) (st := []) dX1_cutInputs_70 rfl (c_Bt_set P W 105 isB_105 ((G 182 x1) + x2) (j_an (j_sr (G 104 x1) x2) 1) G) lkX1_268 (cmBt_set P W) rfl rfl rfl (fun h => isB_c P W isB_105 h) (isB_n isB_105) rfl (Nat.le_of_ble_eq_true rfl) (Nat.le_of_ble_eq_true rfl) (fun _ => rfl) rfl (fun z1 G2 => ?_)
    refine r_iconst 74 0 dX1_cutInputs_73 rfl rfl ?_
    refine r_istore 76 [(6, aI 0), (5, aI (j_an (j_sr (G 104 x1) x2) 1)), (4, aI (G 184 x1)), (3, aI ((G 182 x1) + x2)), (0, aR 100), (1, aI x1), (2, aI x2)] dX1_cutInputs_74 rfl rfl rfl ?_
    refine r_to [4, 5, 6, 3, 2, 1, 0] [(0, aR 100), (1, aI x1), (2, aI x2), (3, aI ((G 182 x1) + x2)), (4, aI (G 184 x1)), (5, aI (j_an (j_sr (G 104 x1) x2) 1)), (6, aI 0)] rfl ?_
    exact sl_Ho_cutInputs_76 P W X2 hX2 x1 X15 hX15 x2 ((G 182 x1) + x2) (G 184 x1) (j_an (j_sr (G 104 x1) x2) 1) 0 G2
theorem sl_Ho_cutInputs_15 (P W : Int) (X2 : Int × St → Option (Int × St)) (hX2 : ∀ s, So (MHo_cutInputs P W) 2 [(0, aR 100), (1, aI (s.1))] [] s.2 (X2 s)) (x1 : Int) (x2 : Int) (G : St) : SS (MHo_cutInputs P W) (lk X2 some) 15 [(0, aR 100), (1, aI x1), (2, aI x2)] [] G (Ho_cutInputs_l15 P W x1 x2 G) := by
  exact SS.loop (σ := Int × St) (fun s => [(0, aR 100), (1, aI x1), (2, aI (s.1))]) (fun s => s.2) (fun s => Ho_cutInputs_s15 P W x1 s.1 s.2) (fun X15 hX15 s => s_Ho_cutInputs_s15 P W X2 hX2 x1  X15 hX15 s.1 s.2) (x2, G)
theorem s_Ho_cutInputs_s2 (P W : Int) (X2 : Int × St → Option (Int × St)) (hX2 : ∀ s, So (MHo_cutInputs P W) 2 [(0, aR 100), (1, aI (s.1))] [] s.2 (X2 s)) (x1 : Int) (G : St) : SS (MHo_cutInputs P W) (lk X2 some) 2 [(0, aR 100), (1, aI x1)] [] G (Ho_cutInputs_s2 P W x1 G) := by
  refine r_iload_n 3 1 dX1_cutInputs_2 rfl rfl rfl ?_
  refine r_aload_n 4 0 dX1_cutInputs_3 rfl rfl rfl ?_
  refine r_get 7 (aR 180) dX1_cutInputs_4 fkX1_107 (fun _ => dsC_100 P W _) nn100 rfl rfl ?_
  refine r_get 10 (aI (G 180 13)) dX1_cutInputs_7 fkX1_203 (fun _ => dsC_180 P W _) nn180 rfl rfl ?_
  refine r_icmp_ge 161 13 dX1_cutInputs_10 rfl rfl ?_ ?_
  · refine SS.ex ?_
    exact r_return dX1_cutInputs_161 rfl
  · refine r_iconst 14 0 dX1_cutInputs_13 rfl rfl ?_
    refine r_istore_n 15 [(2, aI 0), (0, aR 100), (1, aI x1)] dX1_cutInputs_14 rfl rfl rfl rfl ?_
    refine r_to [1, 2, 0] [(0, aR 100), (1, aI x1), (2, aI 0)] rfl ?_
    exact sl_Ho_cutInputs_15 P W X2 hX2 x1 0 G
theorem sl_Ho_cutInputs_2 (P W : Int) (x1 : Int) (G : St) : SS (MHo_cutInputs P W) some 2 [(0, aR 100), (1, aI x1)] [] G (Ho_cutInputs_l2 P W x1 G) := by
  exact SS.loop (σ := Int × St) (fun s => [(0, aR 100), (1, aI (s.1))]) (fun s => s.2) (fun s => Ho_cutInputs_s2 P W s.1 s.2) (fun X2 hX2 s => s_Ho_cutInputs_s2 P W   X2 hX2 s.1 s.2) (x1, G)
theorem s_Ho_cutInputs (P W : Int) (G : St) : SS (MHo_cutInputs P W) some 0 [(0, aR 100)] [] G (Ho_cutInputs P W G) := by
  refine r_iconst 1 0 dX1_cutInputs_0 rfl rfl ?_
  refine r_istore_n 2 [(1, aI 0), (0, aR 100)] dX1_cutInputs_1 rfl rfl rfl rfl ?_
  refine r_to [1, 0] [(0, aR 100), (1, aI 0)] rfl ?_
  exact sl_Ho_cutInputs_2 P W 0 G
theorem c_Ho_cutInputs (P W : Int) (G : St) : MG (MHo_cutInputs P W) [aR 100] G (Ho_cutInputs P W G) := MG.of plX1 (Nat.le_of_ble_eq_true rfl) (s_Ho_cutInputs P W G)
theorem s_Ho_cutTriple_s108 (P W : Int) (x1 : Int) (X108 : Int × Int × St → Option (Int × St)) (hX108 : ∀ s, So (MHo_cutTriple P W) 108 [(0, aR 100), (1, aI x1), (4, aI (s.1)), (5, aI (s.2.1))] [] s.2.2 (X108 s)) (x4 : Int) (x5 : Int) (G : St) : SS (MHo_cutTriple P W) (lk X108 some) 108 [(0, aR 100), (1, aI x1), (4, aI x4), (5, aI x5)] [] G (Ho_cutTriple_s108 P W x1 x4 x5 G) := by
  refine r_iload 110 3 dX1_cutTriple_108 rfl rfl ?_
  refine r_aload_n 111 0 dX1_cutTriple_110 rfl rfl rfl ?_
  refine r_get 114 (aI P) dX1_cutTriple_111 fkX1_77 (fun _ => dsC_100 P W _) nn100 rfl rfl ?_
  refine r_icmp_ge 155 117 dX1_cutTriple_114 rfl rfl ?_ ?_
  · refine SS.ex ?_
    refine r_aload_n 156 0 dX1_cutTriple_155 rfl rfl rfl ?_
    refine r_get 159 (aR 103) dX1_cutTriple_156 fkX1_122 (fun _ => dsC_100 P W _) nn100 rfl rfl ?_
    refine r_iconst 160 0 dX1_cutTriple_159 rfl rfl ?_
    refine r_aald8q 161 dX1_cutTriple_160 (fun _ _ _ => dsC_103 P W _) (fun _ _ => nn103) rfl (fun p1 hp1 => ?_)
    refine r_get 164 (aR (1000 + 32 * p1 + 9)) dX1_cutTriple_161 fkX1_284 (fun h => party_c P W hp1 h) (party_n hp1) rfl rfl ?_
    refine r_iload_n 165 1 dX1_cutTriple_164 rfl rfl rfl ?_
    refine r_iload 167 2 dX1_cutTriple_165 rfl rfl ?_
    refine r_callvV 170 (Mc := MBt_set P W) (o := 1000 + 32 * p1 + 9) (as := [aI x1, aI x4]) (st := []) dX1_cutTriple_167 rfl (c_Bt_set P W (1000 + 32 * p1 + 9) (isB_p9 hp1) x1 x4 G) lkX1_268 (cmBt_set P W) rfl rfl rfl (fun h => isB_c P W (isB_p9 hp1) h) (isB_n (isB_p9 hp1)) rfl (Nat.le_of_ble_eq_true rfl) (Nat.le_of_ble_eq_true rfl) (fun _ => rfl) rfl (fun z2 G3 => ?_)
    exact r_return dX1_cutTriple_170 rfl
  · refine r_aload_n 118 0 dX1_cutTriple_117 rfl rfl rfl ?_
    refine r_get 121 (aR 240) dX1_cutTriple_118 fkX1_47 (fun _ => dsC_100 P W _) nn100 rfl rfl ?_
    refine r_callvI 124 (Mc := MDr_draw P W) (o := 240) (as := []) (st := []) dX1_cutTriple_121 rfl (c_Dr_draw P W G) lkX1_272 (cmDr_draw P W) rfl rfl rfl (fun _ => dsC_240 P W _) nn240 rfl (Nat.le_of_ble_eq_true rfl) (Nat.le_of_ble_eq_true rfl) (fun _ => rfl) rfl (fun z4 G5 => ?_)
    refine r_istore 126 [(6, aI z4), (0, aR 100), (1, aI x1), (4, aI x4), (5, aI x5)] dX1_cutTriple_124 rfl rfl rfl ?_
    refine r_aload_n 127 1 dX1_cutTriple_126 rfl rfl rfl ?_
    refine r_get 130 (aR 103) dX1_cutTriple_127 fkX1_122 (fun _ => dsC_100 P W _) nn100 rfl rfl ?_
    refine r_iload 132 4 dX1_cutTriple_130 rfl rfl ?_
    refine r_aald8q 133 dX1_cutTriple_132 (fun _ _ _ => dsC_103 P W _) (fun _ _ => nn103) rfl (fun p6 hp6 => ?_)
    refine r_get 136 (aR (1000 + 32 * p6 + 9)) dX1_cutTriple_133 fkX1_284 (fun h => party_c P W hp6 h) (party_n hp6) rfl rfl ?_
    refine r_iload_n 137 2 dX1_cutTriple_136 rfl rfl rfl ?_
    refine r_iload 139 0 dX1_cutTriple_137 rfl rfl ?_
    refine r_callvV 142 (Mc := MBt_set P W) (o := 1000 + 32 * p6 + 9) (as := [aI x1, aI z4]) (st := []) dX1_cutTriple_139 rfl (c_Bt_set P W (1000 + 32 * p6 + 9) (isB_p9 hp6) x1 z4 G5) lkX1_268 (cmBt_set P W) rfl rfl rfl (fun h => isB_c P W (isB_p9 hp6) h) (isB_n (isB_p9 hp6)) rfl (Nat.le_of_ble_eq_true rfl) (Nat.le_of_ble_eq_true rfl) (fun _ => rfl) rfl (fun z7 G8 => ?_)
    refine r_iload 144 3 dX1_cutTriple_142 rfl rfl ?_
    refine r_iload 146 0 dX1_cutTriple_144 rfl rfl ?_
    refine r_ixor 147 dX1_cutTriple_146 rfl ?_
    refine r_istore 149 [(4, aI (j_xo x4 z4)), (6, aI z4), (0, aR 100), (1, aI x1), (5, aI x5)] dX1_cutTriple_147 rfl rfl rfl ?_
    refine r_iinc 152 [(5, aI (x5 + 1)), (4, aI (j_xo x4 z4)), (6, aI z4), (0, aR 100), (1, aI x1)] 4 dX1_cutTriple_149 rfl rfl rfl rfl ?_
    refine r_goto 108 dX1_cutTriple_152 rfl ?_
    refine r_to [3, 4, 1, 0] [(0, aR 100), (1, aI x1), (4, aI (j_xo x4 z4)), (5, aI (x5 + 1))] rfl ?_
    exact SS.back (hX108 (j_xo x4 z4, x5 + 1, G8))
theorem sl_Ho_cutTriple_108 (P W : Int) (x1 : Int) (x4 : Int) (x5 : Int) (G : St) : SS (MHo_cutTriple P W) some 108 [(0, aR 100), (1, aI x1), (4, aI x4), (5, aI x5)] [] G (Ho_cutTriple_l108 P W x1 x4 x5 G) := by
  exact SS.loop (σ := Int × Int × St) (fun s => [(0, aR 100), (1, aI x1), (4, aI (s.1)), (5, aI (s.2.1))]) (fun s => s.2.2) (fun s => Ho_cutTriple_s108 P W x1 s.1 s.2.1 s.2.2) (fun X108 hX108 s => s_Ho_cutTriple_s108 P W x1  X108 hX108 s.1 s.2.1 s.2.2) (x4, x5, G)
theorem s_Ho_cutTriple_s55 (P W : Int) (x1 : Int) (x2 : Int) (X55 : Int × Int × St → Option (Int × St)) (hX55 : ∀ s, So (MHo_cutTriple P W) 55 [(0, aR 100), (1, aI x1), (2, aI x2), (3, aI (s.1)), (4, aI (s.2.1))] [] s.2.2 (X55 s)) (x3 : Int) (x4 : Int) (G : St) : SS (MHo_cutTriple P W) (lk X55 some) 55 [(0, aR 100), (1, aI x1), (2, aI x2), (3, aI x3), (4, aI x4)] [] G (Ho_cutTriple_s55 P W x1 x2 x3 x4 G) := by
  refine r_iload 57 4 dX1_cutTriple_55 rfl rfl ?_
  refine r_aload_n 58 0 dX1_cutTriple_57 rfl rfl rfl ?_
  refine r_get 61 (aI P) dX1_cutTriple_58 fkX1_77 (fun _ => dsC_100 P W _) nn100 rfl rfl ?_
  refine r_icmp_ge 100 64 dX1_cutTriple_61 rfl rfl ?_ ?_
  · refine SS.ex ?_
    refine r_iload_n 101 2 dX1_cutTriple_100 rfl rfl rfl ?_
    refine r_iload_n 102 3 dX1_cutTriple_101 rfl rfl rfl ?_
    refine r_iand 103 dX1_cutTriple_102 rfl ?_
    refine r_istore 105 [(4, aI (j_an x2 x3)), (0, aR 100), (1, aI x1), (2, aI x2), (3, aI x3)] dX1_cutTriple_103 rfl rfl rfl ?_
    refine r_iconst 106 1 dX1_cutTriple_105 rfl rfl ?_
    refine r_istore 108 [(5, aI 1), (4, aI (j_an x2 x3)), (0, aR 100), (1, aI x1), (2, aI x2), (3, aI x3)] dX1_cutTriple_106 rfl rfl rfl ?_
    refine r_to [2, 3, 1, 0] [(0, aR 100), (1, aI x1), (4, aI (j_an x2 x3)), (5, aI 1)] rfl ?_
    exact sl_Ho_cutTriple_108 P W x1 (j_an x2 x3) 1 G
  · refine r_aload_n 65 0 dX1_cutTriple_64 rfl rfl rfl ?_
    refine r_get 68 (aR 240) dX1_cutTriple_65 fkX1_47 (fun _ => dsC_100 P W _) nn100 rfl rfl ?_
    refine r_callvI 71 (Mc := MDr_draw P W) (o := 240) (as := []) (st := []) dX1_cutTriple_68 rfl (c_Dr_draw P W G) lkX1_272 (cmDr_draw P W) rfl rfl rfl (fun _ => dsC_240 P W _) nn240 rfl (Nat.le_of_ble_eq_true rfl) (Nat.le_of_ble_eq_true rfl) (fun _ => rfl) rfl (fun z9 G10 => ?_)
    refine r_istore 73 [(5, aI z9), (0, aR 100), (1, aI x1), (2, aI x2), (3, aI x3), (4, aI x4)] dX1_cutTriple_71 rfl rfl rfl ?_
    refine r_aload_n 74 1 dX1_cutTriple_73 rfl rfl rfl ?_
    refine r_get 77 (aR 103) dX1_cutTriple_74 fkX1_122 (fun _ => dsC_100 P W _) nn100 rfl rfl ?_
    refine r_iload 79 5 dX1_cutTriple_77 rfl rfl ?_
    refine r_aald8q 80 dX1_cutTriple_79 (fun _ _ _ => dsC_103 P W _) (fun _ _ => nn103) rfl (fun p11 hp11 => ?_)
    refine r_get 83 (aR (1000 + 32 * p11 + 7)) dX1_cutTriple_80 fkX1_281 (fun h => party_c P W hp11 h) (party_n hp11) rfl rfl ?_
    refine r_iload_n 84 2 dX1_cutTriple_83 rfl rfl rfl ?_
    refine r_iload 86 0 dX1_cutTriple_84 rfl rfl ?_
    refine r_callvV 89 (Mc := MBt_set P W) (o := 1000 + 32 * p11 + 7) (as := [aI x1, aI z9]) (st := []) dX1_cutTriple_86 rfl (c_Bt_set P W (1000 + 32 * p11 + 7) (isB_p7 hp11) x1 z9 G10) lkX1_268 (cmBt_set P W) rfl rfl rfl (fun h => isB_c P W (isB_p7 hp11) h) (isB_n (isB_p7 hp11)) rfl (Nat.le_of_ble_eq_true rfl) (Nat.le_of_ble_eq_true rfl) (fun _ => rfl) rfl (fun z12 G13 => ?_)
    refine r_iload_n 90 4 dX1_cutTriple_89 rfl rfl rfl ?_
    refine r_iload 92 0 dX1_cutTriple_90 rfl rfl ?_
    refine r_ixor 93 dX1_cutTriple_92 rfl ?_
    refine r_istore_n 94 [(3, aI (j_xo x3 z9)), (5, aI z9), (0, aR 100), (1, aI x1), (2, aI x2), (4, aI x4)] dX1_cutTriple_93 rfl rfl rfl rfl ?_
    refine r_iinc 97 [(4, aI (x4 + 1)), (3, aI (j_xo x3 z9)), (5, aI z9), (0, aR 100), (1, aI x1), (2, aI x2)] 5 dX1_cutTriple_94 rfl rfl rfl rfl ?_
    refine r_goto 55 dX1_cutTriple_97 rfl ?_
    refine r_to [3, 4, 5, 1, 0] [(0, aR 100), (1, aI x1), (2, aI x2), (3, aI (j_xo x3 z9)), (4, aI (x4 + 1))] rfl ?_
    exact SS.back (hX55 (j_xo x3 z9, x4 + 1, G13))
theorem sl_Ho_cutTriple_55 (P W : Int) (x1 : Int) (x2 : Int) (x3 : Int) (x4 : Int) (G : St) : SS (MHo_cutTriple P W) some 55 [(0, aR 100), (1, aI x1), (2, aI x2), (3, aI x3), (4, aI x4)] [] G (Ho_cutTriple_l55 P W x1 x2 x3 x4 G) := by
  exact SS.loop (σ := Int × Int × St) (fun s => [(0, aR 100), (1, aI x1), (2, aI x2), (3, aI (s.1)), (4, aI (s.2.1))]) (fun s => s.2.2) (fun s => Ho_cutTriple_s55 P W x1 x2 s.1 s.2.1 s.2.2) (fun X55 hX55 s => s_Ho_cutTriple_s55 P W x1 x2  X55 hX55 s.1 s.2.1 s.2.2) (x3, x4, G)
theorem s_Ho_cutTriple_s7 (P W : Int) (x1 : Int) (x3 : Int) (X7 : Int × Int × St → Option (Int × St)) (hX7 : ∀ s, So (MHo_cutTriple P W) 7 [(0, aR 100), (1, aI x1), (2, aI (s.1)), (3, aI x3), (4, aI (s.2.1))] [] s.2.2 (X7 s)) (x2 : Int) (x4 : Int) (G : St) : SS (MHo_cutTriple P W) (lk X7 some) 7 [(0, aR 100), (1, aI x1), (2, aI x2), (3, aI x3), (4, aI x4)] [] G (Ho_cutTriple_s7 P W x1 x3 x2 x4 G) := by
  refine r_iload 9 4 dX1_cutTriple_7 rfl rfl ?_
  refine r_aload_n 10 0 dX1_cutTriple_9 rfl rfl rfl ?_
  refine r_get 13 (aI P) dX1_cutTriple_10 fkX1_77 (fun _ => dsC_100 P W _) nn100 rfl rfl ?_
  refine r_icmp_ge 52 16 dX1_cutTriple_13 rfl rfl ?_ ?_
  · refine SS.ex ?_
    refine r_iconst 53 0 dX1_cutTriple_52 rfl rfl ?_
    refine r_istore 55 [(4, aI 0), (0, aR 100), (1, aI x1), (2, aI x2), (3, aI x3)] dX1_cutTriple_53 rfl rfl rfl ?_
    refine r_to [1, 2, 3, 4, 0] [(0, aR 100), (1, aI x1), (2, aI x2), (3, aI x3), (4, aI 0)] rfl ?_
    exact sl_Ho_cutTriple_55 P W x1 x2 x3 0 G
  · refine r_aload_n 17 0 dX1_cutTriple_16 rfl rfl rfl ?_
    refine r_get 20 (aR 240) dX1_cutTriple_17 fkX1_47 (fun _ => dsC_100 P W _) nn100 rfl rfl ?_
    refine r_callvI 23 (Mc := MDr_draw P W) (o := 240) (as := []) (st := []) dX1_cutTriple_20 rfl (c_Dr_draw P W G) lkX1_272 (cmDr_draw P W) rfl rfl rfl (fun _ => dsC_240 P W _) nn240 rfl (Nat.le_of_ble_eq_true rfl) (Nat.le_of_ble_eq_true rfl) (fun _ => rfl) rfl (fun z14 G15 => ?_)
    refine r_istore 25 [(5, aI z14), (0, aR 100), (1, aI x1), (2, aI x2), (3, aI x3), (4, aI x4)] dX1_cutTriple_23 rfl rfl rfl ?_
    refine r_aload_n 26 1 dX1_cutTriple_25 rfl rfl rfl ?_
    refine r_get 29 (aR 103) dX1_cutTriple_26 fkX1_122 (fun _ => dsC_100 P W _) nn100 rfl rfl ?_
    refine r_iload 31 5 dX1_cutTriple_29 rfl rfl ?_
    refine r_aald8q 32 dX1_cutTriple_31 (fun _ _ _ => dsC_103 P W _) (fun _ _ => nn103) rfl (fun p16 hp16 => ?_)
    refine r_get 35 (aR (1000 + 32 * p16 + 5)) dX1_cutTriple_32 fkX1_278 (fun h => party_c P W hp16 h) (party_n hp16) rfl rfl ?_
    refine r_iload_n 36 2 dX1_cutTriple_35 rfl rfl rfl ?_
    refine r_iload 38 0 dX1_cutTriple_36 rfl rfl ?_
    refine r_callvV 41 (Mc := MBt_set P W) (o := 1000 + 32 * p16 + 5) (as := [aI x1, aI z14]) (st := []) dX1_cutTriple_38 rfl (c_Bt_set P W (1000 + 32 * p16 + 5) (isB_p5 hp16) x1 z14 G15) lkX1_268 (cmBt_set P W) rfl rfl rfl (fun h => isB_c P W (isB_p5 hp16) h) (isB_n (isB_p5 hp16)) rfl (Nat.le_of_ble_eq_true rfl) (Nat.le_of_ble_eq_true rfl) (fun _ => rfl) rfl (fun z17 G18 => ?_)
    refine r_iload_n 42 3 dX1_cutTriple_41 rfl rfl rfl ?_
    refine r_iload 44 0 dX1_cutTriple_42 rfl rfl ?_
    refine r_ixor 45 dX1_cutTriple_44 rfl ?_
    refine r_istore_n 46 [(2, aI (j_xo x2 z14)), (5, aI z14), (0, aR 100), (1, aI x1), (3, aI x3), (4, aI x4)] dX1_cutTriple_45 rfl rfl rfl rfl ?_
    refine r_iinc 49 [(4, aI (x4 + 1)), (2, aI (j_xo x2 z14)), (5, aI z14), (0, aR 100), (1, aI x1), (3, aI x3)] 5 dX1_cutTriple_46 rfl rfl rfl rfl ?_
    refine r_goto 7 dX1_cutTriple_49 rfl ?_
    refine r_to [3, 4, 1, 5, 0] [(0, aR 100), (1, aI x1), (2, aI (j_xo x2 z14)), (3, aI x3), (4, aI (x4 + 1))] rfl ?_
    exact SS.back (hX7 (j_xo x2 z14, x4 + 1, G18))
theorem sl_Ho_cutTriple_7 (P W : Int) (x1 : Int) (x3 : Int) (x2 : Int) (x4 : Int) (G : St) : SS (MHo_cutTriple P W) some 7 [(0, aR 100), (1, aI x1), (2, aI x2), (3, aI x3), (4, aI x4)] [] G (Ho_cutTriple_l7 P W x1 x3 x2 x4 G) := by
  exact SS.loop (σ := Int × Int × St) (fun s => [(0, aR 100), (1, aI x1), (2, aI (s.1)), (3, aI x3), (4, aI (s.2.1))]) (fun s => s.2.2) (fun s => Ho_cutTriple_s7 P W x1 x3 s.1 s.2.1 s.2.2) (fun X7 hX7 s => s_Ho_cutTriple_s7 P W x1 x3  X7 hX7 s.1 s.2.1 s.2.2) (x2, x4, G)
theorem s_Ho_cutTriple (P W : Int) (x1 : Int) (G : St) : SS (MHo_cutTriple P W) some 0 [(0, aR 100), (1, aI x1)] [] G (Ho_cutTriple P W x1 G) := by
  refine r_iconst 1 0 dX1_cutTriple_0 rfl rfl ?_
  refine r_istore_n 2 [(2, aI 0), (0, aR 100), (1, aI x1)] dX1_cutTriple_1 rfl rfl rfl rfl ?_
  refine r_iconst 3 0 dX1_cutTriple_2 rfl rfl ?_
  refine r_istore_n 4 [(3, aI 0), (2, aI 0), (0, aR 100), (1, aI x1)] dX1_cutTriple_3 rfl rfl rfl rfl ?_
  refine r_iconst 5 0 dX1_cutTriple_4 rfl rfl ?_
  refine r_istore 7 [(4, aI 0), (3, aI 0), (2, aI 0), (0, aR 100), (1, aI x1)] dX1_cutTriple_5 rfl rfl rfl ?_
  refine r_to [3, 4, 2, 1, 0] [(0, aR 100), (1, aI x1), (2, aI 0), (3, aI 0), (4, aI 0)] rfl ?_
  exact sl_Ho_cutTriple_7 P W x1 0 0 0 G
theorem c_Ho_cutTriple (P W : Int) (x1 : Int) (G : St) : MG (MHo_cutTriple P W) [aR 100, aI x1] G (Ho_cutTriple P W x1 G) := MG.of plX1 (Nat.le_of_ble_eq_true rfl) (s_Ho_cutTriple P W x1 G)
theorem s_Ho_send_b66 (P W : Int) (x1 : Int) (X2 : Int × St → Option (Int × St)) (hX2 : ∀ s, So (MHo_send P W) 2 [(0, aR 100), (1, aI x1), (2, aI (s.1))] [] s.2 (X2 s)) (x2 : Int) (G : St) : SS (MHo_send P W) (lk X2 some) 66 [(0, aR 100), (1, aI x1), (2, aI x2)] [] G (Ho_send_b66 P W x1 x2 G) := by
  refine r_iinc 69 [(2, aI (x2 + 1)), (0, aR 100), (1, aI x1)] 2 dX1_send_66 rfl rfl rfl rfl ?_
  refine r_goto 2 dX1_send_69 rfl ?_
  refine r_to [1, 2, 0] [(0, aR 100), (1, aI x1), (2, aI (x2 + 1))] rfl ?_
  exact SS.back (hX2 (x2 + 1, G))
theorem s_Ho_send_s2 (P W : Int) (x1 : Int) (X2 : Int × St → Option (Int × St)) (hX2 : ∀ s, So (MHo_send P W) 2 [(0, aR 100), (1, aI x1), (2, aI (s.1))] [] s.2 (X2 s)) (x2 : Int) (G : St) : SS (MHo_send P W) (lk X2 some) 2 [(0, aR 100), (1, aI x1), (2, aI x2)] [] G (Ho_send_s2 P W x1 x2 G) := by
  refine r_iload_n 3 2 dX1_send_2 rfl rfl rfl ?_
  refine r_aload_n 4 0 dX1_send_3 rfl rfl rfl ?_
  refine r_get 7 (aI P) dX1_send_4 fkX1_77 (fun _ => dsC_100 P W _) nn100 rfl rfl ?_
  refine r_icmp_ge 72 10 dX1_send_7 rfl rfl ?_ ?_
  · refine SS.ex ?_
    refine r_aload_n 73 0 dX1_send_72 rfl rfl rfl ?_
    refine r_get 76 (aI P) dX1_send_73 fkX1_77 (fun _ => dsC_100 P W _) nn100 rfl rfl ?_
    refine r_iconst 77 1 dX1_send_76 rfl rfl ?_
    refine r_isub 78 dX1_send_77 rfl ?_
    exact r_ireturn dX1_send_78 rfl
  · refine r_iload_n 11 2 dX1_send_10 rfl rfl rfl ?_
    refine r_iload_n 12 1 dX1_send_11 rfl rfl rfl ?_
    refine r_icmp_ne 18 15 dX1_send_12 rfl rfl ?_ ?_
    · refine r_aload_n 19 0 dX1_send_18 rfl rfl rfl ?_
      refine r_get 22 (aR 170) dX1_send_19 fkX1_129 (fun _ => dsC_100 P W _) nn100 rfl rfl ?_
      refine r_aload_n 23 0 dX1_send_22 rfl rfl rfl ?_
      refine r_get 26 (aI (G 100 23)) dX1_send_23 fkX1_157 (fun _ => dsC_100 P W _) nn100 rfl rfl ?_
      refine r_iload_n 27 1 dX1_send_26 rfl rfl rfl ?_
      refine r_iast 28 dX1_send_27 (fun _ _ _ => dsC_170 P W _) (fun _ _ => nn170) rfl ?_
      refine ss_tk (fun G1 => ?_)
      refine r_aload_n 29 0 dX1_send_28 rfl rfl rfl ?_
      refine r_get 32 (aR 171) dX1_send_29 fkX1_132 (fun _ => dsC_100 P W _) nn100 rfl rfl ?_
      refine r_aload_n 33 0 dX1_send_32 rfl rfl rfl ?_
      refine r_get 36 (aI (G1 100 23)) dX1_send_33 fkX1_157 (fun _ => dsC_100 P W _) nn100 rfl rfl ?_
      refine r_iload_n 37 2 dX1_send_36 rfl rfl rfl ?_
      refine r_iast 38 dX1_send_37 (fun _ _ _ => dsC_171 P W _) (fun _ _ => nn171) rfl ?_
      refine ss_tk (fun G2 => ?_)
      refine r_aload_n 39 0 dX1_send_38 rfl rfl rfl ?_
      refine r_get 42 (aR 172) dX1_send_39 fkX1_135 (fun _ => dsC_100 P W _) nn100 rfl rfl ?_
      refine r_aload_n 43 0 dX1_send_42 rfl rfl rfl ?_
      refine r_get 46 (aI (G2 100 23)) dX1_send_43 fkX1_157 (fun _ => dsC_100 P W _) nn100 rfl rfl ?_
      refine r_aload_n 47 0 dX1_send_46 rfl rfl rfl ?_
      refine r_get 50 (aR 103) dX1_send_47 fkX1_122 (fun _ => dsC_100 P W _) nn100 rfl rfl ?_
      refine r_iload_n 51 1 dX1_send_50 rfl rfl rfl ?_
      refine r_aald8q 52 dX1_send_51 (fun _ _ _ => dsC_103 P W _) (fun _ _ => nn103) rfl (fun p3 hp3 => ?_)
      refine r_get 55 (aI (G2 (1000 + 32 * p3) 7)) dX1_send_52 fkX1_299 (fun h => party_c P W hp3 h) (party_n hp3) rfl rfl ?_
      refine r_iast 56 dX1_send_55 (fun _ _ _ => dsC_172 P W _) (fun _ _ => nn172) rfl ?_
      refine ss_tk (fun G4 => ?_)
      refine r_aload_n 57 0 dX1_send_56 rfl rfl rfl ?_
      refine r_dup 58 dX1_send_57 rfl rfl ?_
      refine r_get 61 (aI (G4 100 23)) dX1_send_58 fkX1_157 (fun _ => dsC_100 P W _) nn100 rfl rfl ?_
      refine r_iconst 62 1 dX1_send_61 rfl rfl ?_
      refine r_iadd 63 dX1_send_62 rfl ?_
      refine r_putI 66 dX1_send_63 fkX1_157 (fun _ => dsC_100 P W _) nn100 rfl rfl ?_
      refine ss_tk (fun G5 => ?_)
      exact s_Ho_send_b66 P W x1 X2 hX2 x2 G5
    · refine r_goto 66 dX1_send_15 rfl ?_
      exact s_Ho_send_b66 P W x1 X2 hX2 x2 G
theorem sl_Ho_send_2 (P W : Int) (x1 : Int) (x2 : Int) (G : St) : SS (MHo_send P W) some 2 [(0, aR 100), (1, aI x1), (2, aI x2)] [] G (Ho_send_l2 P W x1 x2 G) := by
  exact SS.loop (σ := Int × St) (fun s => [(0, aR 100), (1, aI x1), (2, aI (s.1))]) (fun s => s.2) (fun s => Ho_send_s2 P W x1 s.1 s.2) (fun X2 hX2 s => s_Ho_send_s2 P W x1  X2 hX2 s.1 s.2) (x2, G)
theorem s_Ho_send (P W : Int) (x1 : Int) (G : St) : SS (MHo_send P W) some 0 [(0, aR 100), (1, aI x1)] [] G (Ho_send P W x1 G) := by
  refine r_iconst 1 0 dX1_send_0 rfl rfl ?_
  refine r_istore_n 2 [(2, aI 0), (0, aR 100), (1, aI x1)] dX1_send_1 rfl rfl rfl rfl ?_
  refine r_to [1, 2, 0] [(0, aR 100), (1, aI x1), (2, aI 0)] rfl ?_
  exact sl_Ho_send_2 P W x1 0 G
theorem c_Ho_send (P W : Int) (x1 : Int) (G : St) : MG (MHo_send P W) [aR 100, aI x1] G (Ho_send P W x1 G) := MG.of plX1 (Nat.le_of_ble_eq_true rfl) (s_Ho_send P W x1 G)
theorem s_Pa_begin (P W : Int) (p : Int) (hp : 0 ≤ p) (G : St) : SS (MPa_begin P W) some 0 [(0, aR (1000 + 32 * p))] [] G (Pa_begin p G) := by
  refine r_aload_n 1 0 dX14_begin_0 rfl rfl rfl ?_
  refine r_iconst 2 0 dX14_begin_1 rfl rfl ?_
  refine r_putI 5 dX14_begin_2 fkX14_46 (fun h => party_c P W hp h) (party_n hp) rfl rfl ?_
  refine ss_tk (fun G1 => ?_)
  refine r_aload_n 6 0 dX14_begin_5 rfl rfl rfl ?_
  refine r_iconst 7 0 dX14_begin_6 rfl rfl ?_
  refine r_putI 10 dX14_begin_7 fkX14_49 (fun h => party_c P W hp h) (party_n hp) rfl rfl ?_
  refine ss_tk (fun G2 => ?_)
  refine r_aload_n 11 0 dX14_begin_10 rfl rfl rfl ?_
  refine r_iconst 12 0 dX14_begin_11 rfl rfl ?_
  refine r_putI 15 dX14_begin_12 fkX14_52 (fun h => party_c P W hp h) (party_n hp) rfl rfl ?_
  refine ss_tk (fun G3 => ?_)
  refine r_aload_n 16 0 dX14_begin_15 rfl rfl rfl ?_
  refine r_iconst 17 0 dX14_begin_16 rfl rfl ?_
  refine r_putI 20 dX14_begin_17 fkX14_55 (fun h => party_c P W hp h) (party_n hp) rfl rfl ?_
  refine ss_tk (fun G4 => ?_)
  exact r_return dX14_begin_20 rfl
theorem c_Pa_begin (P W : Int) (p : Int) (hp : 0 ≤ p) (G : St) : MG (MPa_begin P W) [aR (1000 + 32 * p)] G (Pa_begin p G) := MG.of plX14 (Nat.le_of_ble_eq_true rfl) (s_Pa_begin P W p hp G)
theorem s_Ho_deal_s91 (P W : Int) (X91 : Int × St → Option (Int × St)) (hX91 : ∀ s, So (MHo_deal P W) 91 [(0, aR 100), (1, aI (s.1))] [] s.2 (X91 s)) (x1 : Int) (G : St) : SS (MHo_deal P W) (lk X91 some) 91 [(0, aR 100), (1, aI x1)] [] G (Ho_deal_s91 P W x1 G) := by
  refine r_iload_n 92 1 dX1_deal_91 rfl rfl rfl ?_
  refine r_aload_n 93 0 dX1_deal_92 rfl rfl rfl ?_
  refine r_get 96 (aI P) dX1_deal_93 fkX1_77 (fun _ => dsC_100 P W _) nn100 rfl rfl ?_
  refine r_icmp_ge 111 99 dX1_deal_96 rfl rfl ?_ ?_
  · refine SS.ex ?_
    refine r_iconst 112 1 dX1_deal_111 rfl rfl ?_
    exact r_zreturn dX1_deal_112 rfl
  · refine r_aload_n 100 0 dX1_deal_99 rfl rfl rfl ?_
    refine r_iload_n 101 1 dX1_deal_100 rfl rfl rfl ?_
    refine r_callvI 104 (Mc := MHo_send P W) (o := 100) (as := [aI x1]) (st := []) dX1_deal_101 rfl (c_Ho_send P W x1 G) lkX1_296 (cmHo_send P W) rfl rfl rfl (fun _ => dsC_100 P W _) nn100 rfl (Nat.le_of_ble_eq_true rfl) (Nat.le_of_ble_eq_true rfl) (fun _ => rfl) rfl (fun z6 G7 => ?_)
    refine r_istore_n 105 [(2, aI z6), (0, aR 100), (1, aI x1)] dX1_deal_104 rfl rfl rfl rfl ?_
    refine r_iinc 108 [(1, aI (x1 + 1)), (2, aI z6), (0, aR 100)] 2 dX1_deal_105 rfl rfl rfl rfl ?_
    refine r_goto 91 dX1_deal_108 rfl ?_
    refine r_to [2, 0] [(0, aR 100), (1, aI (x1 + 1))] rfl ?_
    exact SS.back (hX91 (x1 + 1, G7))
theorem sl_Ho_deal_91 (P W : Int) (x1 : Int) (G : St) : SS (MHo_deal P W) some 91 [(0, aR 100), (1, aI x1)] [] G (Ho_deal_l91 P W x1 G) := by
  exact SS.loop (σ := Int × St) (fun s => [(0, aR 100), (1, aI (s.1))]) (fun s => s.2) (fun s => Ho_deal_s91 P W s.1 s.2) (fun X91 hX91 s => s_Ho_deal_s91 P W   X91 hX91 s.1 s.2) (x1, G)
theorem s_Ho_deal_s66 (P W : Int) (X66 : Int × St → Option (Int × St)) (hX66 : ∀ s, So (MHo_deal P W) 66 [(0, aR 100), (1, aI (s.1))] [] s.2 (X66 s)) (x1 : Int) (G : St) : SS (MHo_deal P W) (lk X66 some) 66 [(0, aR 100), (1, aI x1)] [] G (Ho_deal_s66 P W x1 G) := by
  refine r_iload_n 67 1 dX1_deal_66 rfl rfl rfl ?_
  refine r_aload_n 68 0 dX1_deal_67 rfl rfl rfl ?_
  refine r_get 71 (aI P) dX1_deal_68 fkX1_77 (fun _ => dsC_100 P W _) nn100 rfl rfl ?_
  refine r_icmp_ge 89 74 dX1_deal_71 rfl rfl ?_ ?_
  · refine SS.ex ?_
    refine r_iconst 90 0 dX1_deal_89 rfl rfl ?_
    refine r_istore_n 91 [(1, aI 0), (0, aR 100)] dX1_deal_90 rfl rfl rfl rfl ?_
    refine r_to [1, 0] [(0, aR 100), (1, aI 0)] rfl ?_
    exact sl_Ho_deal_91 P W 0 G
  · refine r_aload_n 75 0 dX1_deal_74 rfl rfl rfl ?_
    refine r_get 78 (aR 103) dX1_deal_75 fkX1_122 (fun _ => dsC_100 P W _) nn100 rfl rfl ?_
    refine r_iload_n 79 1 dX1_deal_78 rfl rfl rfl ?_
    refine r_aald8q 80 dX1_deal_79 (fun _ _ _ => dsC_103 P W _) (fun _ _ => nn103) rfl (fun p8 hp8 => ?_)
    refine r_callvV 83 (Mc := MPa_begin P W) (o := 1000 + 32 * p8) (as := []) (st := []) dX1_deal_80 rfl (c_Pa_begin P W p8 hp8 G) lkX1_293 (cmPa_begin P W) rfl rfl rfl (fun h => party_c P W hp8 h) (party_n hp8) rfl (Nat.le_of_ble_eq_true rfl) (Nat.le_of_ble_eq_true rfl) (fun _ => rfl) rfl (fun z9 G10 => ?_)
    refine r_iinc 86 [(1, aI (x1 + 1)), (0, aR 100)] 1 dX1_deal_83 rfl rfl rfl rfl ?_
    refine r_goto 66 dX1_deal_86 rfl ?_
    refine r_to [1, 0] [(0, aR 100), (1, aI (x1 + 1))] rfl ?_
    exact SS.back (hX66 (x1 + 1, G10))
theorem sl_Ho_deal_66 (P W : Int) (x1 : Int) (G : St) : SS (MHo_deal P W) some 66 [(0, aR 100), (1, aI x1)] [] G (Ho_deal_l66 P W x1 G) := by
  exact SS.loop (σ := Int × St) (fun s => [(0, aR 100), (1, aI (s.1))]) (fun s => s.2) (fun s => Ho_deal_s66 P W s.1 s.2) (fun X66 hX66 s => s_Ho_deal_s66 P W   X66 hX66 s.1 s.2) (x1, G)
theorem s_Ho_deal_b43 (P W : Int) (X15 : Int × St → Option (Int × St)) (hX15 : ∀ s, So (MHo_deal P W) 15 [(0, aR 100), (1, aI (s.1))] [] s.2 (X15 s)) (x1 : Int) (G : St) : SS (MHo_deal P W) (lk X15 some) 43 [(0, aR 100), (1, aI x1)] [] G (Ho_deal_b43 P W x1 G) := by
  refine r_iinc 46 [(1, aI (x1 + 1)), (0, aR 100)] 1 dX1_deal_43 rfl rfl rfl rfl ?_
  refine r_goto 15 dX1_deal_46 rfl ?_
  refine r_to [1, 0] [(0, aR 100), (1, aI (x1 + 1))] rfl ?_
  exact SS.back (hX15 (x1 + 1, G))
theorem s_Ho_deal_s15 (P W : Int) (X15 : Int × St → Option (Int × St)) (hX15 : ∀ s, So (MHo_deal P W) 15 [(0, aR 100), (1, aI (s.1))] [] s.2 (X15 s)) (x1 : Int) (G : St) : SS (MHo_deal P W) (lk X15 some) 15 [(0, aR 100), (1, aI x1)] [] G (Ho_deal_s15 P W x1 G) := by
  refine r_iload_n 16 1 dX1_deal_15 rfl rfl rfl ?_
  refine r_aload_n 17 0 dX1_deal_16 rfl rfl rfl ?_
  refine r_get 20 (aR 140) dX1_deal_17 fkX1_40 (fun _ => dsC_100 P W _) nn100 rfl rfl ?_
  refine r_get 23 (aI (G 140 4)) dX1_deal_20 fkX1_191 (fun _ => dsC_140 P W _) nn140 rfl rfl ?_
  refine r_icmp_ge 49 26 dX1_deal_23 rfl rfl ?_ ?_
  · refine SS.ex ?_
    refine r_aload_n 50 0 dX1_deal_49 rfl rfl rfl ?_
    refine r_iconst 51 1 dX1_deal_50 rfl rfl ?_
    refine r_putZ 54 dX1_deal_51 fkX1_154 (fun _ => dsC_100 P W _) nn100 rfl rfl ?_
    refine ss_tk (fun G3 => ?_)
    refine r_aload_n 55 0 dX1_deal_54 rfl rfl rfl ?_
    refine r_iconst 56 0 dX1_deal_55 rfl rfl ?_
    refine r_putI 59 dX1_deal_56 fkX1_157 (fun _ => dsC_100 P W _) nn100 rfl rfl ?_
    refine ss_tk (fun G4 => ?_)
    refine r_aload_n 60 0 dX1_deal_59 rfl rfl rfl ?_
    refine r_iconst 61 0 dX1_deal_60 rfl rfl ?_
    refine r_putI 64 dX1_deal_61 fkX1_160 (fun _ => dsC_100 P W _) nn100 rfl rfl ?_
    refine ss_tk (fun G5 => ?_)
    refine r_iconst 65 0 dX1_deal_64 rfl rfl ?_
    refine r_istore_n 66 [(1, aI 0), (0, aR 100)] dX1_deal_65 rfl rfl rfl rfl ?_
    refine r_to [1, 0] [(0, aR 100), (1, aI 0)] rfl ?_
    exact sl_Ho_deal_66 P W 0 G5
  · refine r_aload_n 27 0 dX1_deal_26 rfl rfl rfl ?_
    refine r_get 30 (aR 140) dX1_deal_27 fkX1_40 (fun _ => dsC_100 P W _) nn100 rfl rfl ?_
    refine r_get 33 (aR 144) dX1_deal_30 fkX1_227 (fun _ => dsC_140 P W _) nn140 rfl rfl ?_
    refine r_iload_n 34 1 dX1_deal_33 rfl rfl rfl ?_
    refine r_zald 35 dX1_deal_34 (fun _ _ _ => dsC_144 P W _) (fun _ _ => nn144) rfl ?_
    refine r_if_eq 43 38 dX1_deal_35 rfl rfl ?_ ?_
    · exact s_Ho_deal_b43 P W X15 hX15 x1 G
    · refine r_aload_n 39 0 dX1_deal_38 rfl rfl rfl ?_
      refine r_iload_n 40 1 dX1_deal_39 rfl rfl rfl ?_
      refine r_callvV 43 (Mc := MHo_cutTriple P W) (o := 100) (as := [aI x1]) (st := []) dX1_deal_40 rfl (c_Ho_cutTriple P W x1 G) lkX1_290 (cmHo_cutTriple P W) rfl rfl rfl (fun _ => dsC_100 P W _) nn100 rfl (Nat.le_of_ble_eq_true rfl) (Nat.le_of_ble_eq_true rfl) (fun _ => rfl) rfl (fun z11 G12 => ?_)
      exact s_Ho_deal_b43 P W X15 hX15 x1 G12
theorem sl_Ho_deal_15 (P W : Int) (x1 : Int) (G : St) : SS (MHo_deal P W) some 15 [(0, aR 100), (1, aI x1)] [] G (Ho_deal_l15 P W x1 G) := by
  exact SS.loop (σ := Int × St) (fun s => [(0, aR 100), (1, aI (s.1))]) (fun s => s.2) (fun s => Ho_deal_s15 P W s.1 s.2) (fun X15 hX15 s => s_Ho_deal_s15 P W   X15 hX15 s.1 s.2) (x1, G)
theorem s_Ho_deal (P W : Int) (G : St) : SS (MHo_deal P W) some 0 [(0, aR 100)] [] G (Ho_deal P W G) := by
  refine r_aload_n 1 0 dX1_deal_0 rfl rfl rfl ?_
  refine r_get 4 (aI (G 100 18)) dX1_deal_1 fkX1_150 (fun _ => dsC_100 P W _) nn100 rfl rfl ?_
  refine r_if_ne 9 7 dX1_deal_4 rfl rfl ?_ ?_
  · refine r_aload_n 10 0 dX1_deal_9 rfl rfl rfl ?_
    refine r_callvV 13 (Mc := MHo_cutInputs P W) (o := 100) (as := []) (st := []) dX1_deal_10 rfl (c_Ho_cutInputs P W G) lkX1_287 (cmHo_cutInputs P W) rfl rfl rfl (fun _ => dsC_100 P W _) nn100 rfl (Nat.le_of_ble_eq_true rfl) (Nat.le_of_ble_eq_true rfl) (fun _ => rfl) rfl (fun z1 G2 => ?_)
    refine r_iconst 14 0 dX1_deal_13 rfl rfl ?_
    refine r_istore_n 15 [(1, aI 0), (0, aR 100)] dX1_deal_14 rfl rfl rfl rfl ?_
    refine r_to [1, 0] [(0, aR 100), (1, aI 0)] rfl ?_
    exact sl_Ho_deal_15 P W 0 G2
  · refine r_iconst 8 0 dX1_deal_7 rfl rfl ?_
    exact r_zreturn dX1_deal_8 rfl
theorem c_Ho_deal (P W : Int) (G : St) : MG (MHo_deal P W) [aR 100] G (Ho_deal P W G) := MG.of plX1 (Nat.le_of_ble_eq_true rfl) (s_Ho_deal P W G)
theorem s_Pa_shareOf_b14 (P W : Int) (p : Int) (hp : 0 ≤ p) (x1 : Int) (s0 : Int) (G : St) : SS (MPa_shareOf P W) some 14 [(0, aR (1000 + 32 * p)), (1, aI x1)] [aI s0] G (Pa_shareOf_b14 p x1 s0 G) := by
  refine r_istore_n 15 [(2, aI s0), (0, aR (1000 + 32 * p)), (1, aI x1)] dX14_shareOf_14 rfl rfl rfl rfl ?_
  refine r_iload_n 16 2 dX14_shareOf_15 rfl rfl rfl ?_
  refine r_if_ge 23 19 dX14_shareOf_16 rfl rfl ?_ ?_
  · refine r_aload_n 24 1 dX14_shareOf_23 rfl rfl rfl ?_
    refine r_get 27 (aR (1000 + 32 * p + 1)) dX14_shareOf_24 fkX14_15 (fun h => party_c P W hp h) (party_n hp) rfl rfl ?_
    refine r_iload_n 28 2 dX14_shareOf_27 rfl rfl rfl ?_
    refine r_iconst 29 2 dX14_shareOf_28 rfl rfl ?_
    refine r_idiv 30 dX14_shareOf_29 rfl ?_
    refine r_callvI 33 (Mc := MBt_get P W) (o := 1000 + 32 * p + 1) (as := [aI (x1 / 2)]) (st := []) dX14_shareOf_30 rfl (c_Bt_get P W (1000 + 32 * p + 1) (isB_p1 hp) (x1 / 2) G) lkX14_69 (cmBt_get P W) rfl rfl rfl (fun h => isB_c P W (isB_p1 hp) h) (isB_n (isB_p1 hp)) rfl (Nat.le_of_ble_eq_true rfl) (Nat.le_of_ble_eq_true rfl) (fun _ => rfl) rfl (fun z1 G2 => ?_)
    refine r_iload_n 34 0 dX14_shareOf_33 rfl rfl rfl ?_
    refine r_ixor 35 dX14_shareOf_34 rfl ?_
    exact r_ireturn dX14_shareOf_35 rfl
  · refine r_iload_n 20 0 dX14_shareOf_19 rfl rfl rfl ?_
    refine r_goto 35 dX14_shareOf_20 rfl ?_
    exact r_ireturn dX14_shareOf_35 rfl
theorem s_Pa_shareOf (P W : Int) (p : Int) (hp : 0 ≤ p) (x1 : Int) (G : St) : SS (MPa_shareOf P W) some 0 [(0, aR (1000 + 32 * p)), (1, aI x1)] [] G (Pa_shareOf p x1 G) := by
  refine r_aload_n 1 0 dX14_shareOf_0 rfl rfl rfl ?_
  refine r_get 4 (aI p) dX14_shareOf_1 fkX14_42 (fun h => party_c P W hp h) (party_n hp) (party_num P W) rfl ?_
  refine r_if_ne 13 7 dX14_shareOf_4 rfl rfl ?_ ?_
  · refine r_iconst 14 0 dX14_shareOf_13 rfl rfl ?_
    exact s_Pa_shareOf_b14 P W p hp x1 0 G
  · refine r_iload_n 8 1 dX14_shareOf_7 rfl rfl rfl ?_
    refine r_iconst 9 1 dX14_shareOf_8 rfl rfl ?_
    refine r_iand 10 dX14_shareOf_9 rfl ?_
    refine r_goto 14 dX14_shareOf_10 rfl ?_
    exact s_Pa_shareOf_b14 P W p hp x1 (j_an x1 1) G
theorem c_Pa_shareOf (P W : Int) (p : Int) (hp : 0 ≤ p) (x1 : Int) (G : St) : MG (MPa_shareOf P W) [aR (1000 + 32 * p), aI x1] G (Pa_shareOf p x1 G) := MG.of plX14 (Nat.le_of_ble_eq_true rfl) (s_Pa_shareOf P W p hp x1 G)
theorem s_Pl_wireOf (P W : Int) (x1 : Int) (x2 : Int) (G : St) : SS (MPl_wireOf P W) some 0 [(0, aR 220), (1, aI x1), (2, aI x2)] [] G (Pl_wireOf P W x1 x2 G) := by
  refine r_aload_n 1 0 dX13_wireOf_0 rfl rfl rfl ?_
  refine r_get 4 (aR 227) dX13_wireOf_1 fkX13_43 (fun _ => dsC_220 P W _) nn220 rfl rfl ?_
  refine r_aload_n 5 0 dX13_wireOf_4 rfl rfl rfl ?_
  refine r_get 8 (aR 228) dX13_wireOf_5 fkX13_46 (fun _ => dsC_220 P W _) nn220 rfl rfl ?_
  refine r_iload_n 9 1 dX13_wireOf_8 rfl rfl rfl ?_
  refine r_iald 10 dX13_wireOf_9 (fun _ _ _ => dsC_228 P W _) (fun _ _ => nn228) rfl ?_
  refine r_iload_n 11 2 dX13_wireOf_10 rfl rfl rfl ?_
  refine r_iadd 12 dX13_wireOf_11 rfl ?_
  refine r_iald 13 dX13_wireOf_12 (fun _ _ _ => dsC_227 P W _) (fun _ _ => nn227) rfl ?_
  exact r_ireturn dX13_wireOf_13 rfl
theorem c_Pl_wireOf (P W : Int) (x1 : Int) (x2 : Int) (G : St) : MG (MPl_wireOf P W) [aR 220, aI x1, aI x2] G (Pl_wireOf P W x1 x2 G) := MG.of plX13 (Nat.le_of_ble_eq_true rfl) (s_Pl_wireOf P W x1 x2 G)
theorem s_Pa_bit (P W : Int) (p : Int) (hp : 0 ≤ p) (p1 : Int) (x2 : Int) (x3 : Int) (hp1 : 0 ≤ p1) (G : St) : SS (MPa_bit P W) some 0 [(0, aR (1000 + 32 * p)), (1, aR (1000 + 32 * p1)), (2, aI x2), (3, aI x3)] [] G (Pa_bit P W p p1 x2 x3 G) := by
  refine r_iload_n 1 2 dX14_bit_0 rfl rfl rfl ?_
  refine r_if_ne 24 4 dX14_bit_1 rfl rfl ?_ ?_
  · refine r_iload_n 25 2 dX14_bit_24 rfl rfl rfl ?_
    refine r_aload_n 26 0 dX14_bit_25 rfl rfl rfl ?_
    refine r_get 29 (aR 220) dX14_bit_26 fkX14_38 (fun h => party_c P W hp h) (party_n hp) rfl rfl ?_
    refine r_get 32 (aR 140) dX14_bit_29 fkX14_58 (fun _ => dsC_220 P W _) nn220 rfl rfl ?_
    refine r_get 35 (aI (G 140 7)) dX14_bit_32 fkX14_64 (fun _ => dsC_140 P W _) nn140 rfl rfl ?_
    refine r_icmp_le 52 38 dX14_bit_35 rfl rfl ?_ ?_
    · refine r_aload_n 53 0 dX14_bit_52 rfl rfl rfl ?_
      refine r_get 56 (aR 220) dX14_bit_53 fkX14_38 (fun h => party_c P W hp h) (party_n hp) rfl rfl ?_
      refine r_get 59 (aR 222) dX14_bit_56 fkX14_83 (fun _ => dsC_220 P W _) nn220 rfl rfl ?_
      refine r_aload_n 60 0 dX14_bit_59 rfl rfl rfl ?_
      refine r_get 63 (aR 220) dX14_bit_60 fkX14_38 (fun h => party_c P W hp h) (party_n hp) rfl rfl ?_
      refine r_get 66 (aR 224) dX14_bit_63 fkX14_86 (fun _ => dsC_220 P W _) nn220 rfl rfl ?_
      refine r_iload_n 67 2 dX14_bit_66 rfl rfl rfl ?_
      refine r_iald 68 dX14_bit_67 (fun _ _ _ => dsC_224 P W _) (fun _ _ => nn224) rfl ?_
      refine r_iload_n 69 3 dX14_bit_68 rfl rfl rfl ?_
      refine r_iconst 70 2 dX14_bit_69 rfl rfl ?_
      refine r_idiv 71 dX14_bit_70 rfl ?_
      refine r_iadd 72 dX14_bit_71 rfl ?_
      refine r_iald 73 dX14_bit_72 (fun _ _ _ => dsC_222 P W _) (fun _ _ => nn222) rfl ?_
      refine r_istore 75 [(4, aI (G 222 ((G 224 x2) + (x3 / 2)))), (0, aR (1000 + 32 * p)), (1, aR (1000 + 32 * p1)), (2, aI x2), (3, aI x3)] dX14_bit_73 rfl rfl rfl ?_
      refine r_iload_n 76 4 dX14_bit_75 rfl rfl rfl ?_
      refine r_iconst 77 2 dX14_bit_76 rfl rfl ?_
      refine r_irem 78 dX14_bit_77 rfl ?_
      refine r_if_ne 111 81 dX14_bit_78 rfl rfl ?_ ?_
      · refine r_aload_n 112 1 dX14_bit_111 rfl rfl rfl ?_
        refine r_aload_n 113 1 dX14_bit_112 rfl rfl rfl ?_
        refine r_get 116 (aR 220) dX14_bit_113 fkX14_38 (fun h => party_c P W hp h) (party_n hp) rfl rfl ?_
        refine r_get 119 (aR 140) dX14_bit_116 fkX14_58 (fun _ => dsC_220 P W _) nn220 rfl rfl ?_
        refine r_get 122 (aR 142) dX14_bit_119 fkX14_92 (fun _ => dsC_140 P W _) nn140 rfl rfl ?_
        refine r_iload 124 0 dX14_bit_122 rfl rfl ?_
        refine r_iald 125 dX14_bit_124 (fun _ _ _ => dsC_142 P W _) (fun _ _ => nn142) rfl ?_
        refine r_callvI 128 (Mc := MPa_shareOf P W) (o := 1000 + 32 * p) (as := [aI (G 142 (G 222 ((G 224 x2) + (x3 / 2))))]) (st := []) dX14_bit_125 rfl (c_Pa_shareOf P W p hp (G 142 (G 222 ((G 224 x2) + (x3 / 2)))) G) lkX14_80 (cmPa_shareOf P W) rfl rfl rfl (fun h => party_c P W hp h) (party_n hp) rfl (Nat.le_of_ble_eq_true rfl) (Nat.le_of_ble_eq_true rfl) (fun _ => rfl) rfl (fun z1 G2 => ?_)
        refine r_aload_n 129 1 dX14_bit_128 rfl rfl rfl ?_
        refine r_get 132 (aR (1000 + 32 * p + 7)) dX14_bit_129 fkX14_28 (fun h => party_c P W hp h) (party_n hp) rfl rfl ?_
        refine r_iload 134 0 dX14_bit_132 rfl rfl ?_
        refine r_callvI 137 (Mc := MBt_get P W) (o := 1000 + 32 * p + 7) (as := [aI (G 222 ((G 224 x2) + (x3 / 2)))]) (st := [aI z1]) dX14_bit_134 rfl (c_Bt_get P W (1000 + 32 * p + 7) (isB_p7 hp) (G 222 ((G 224 x2) + (x3 / 2))) G2) lkX14_69 (cmBt_get P W) rfl rfl rfl (fun h => isB_c P W (isB_p7 hp) h) (isB_n (isB_p7 hp)) rfl (Nat.le_of_ble_eq_true rfl) (Nat.le_of_ble_eq_true rfl) (fun _ => rfl) rfl (fun z3 G4 => ?_)
        refine r_ixor 138 dX14_bit_137 rfl ?_
        exact r_ireturn dX14_bit_138 rfl
      · refine r_aload_n 82 1 dX14_bit_81 rfl rfl rfl ?_
        refine r_aload_n 83 1 dX14_bit_82 rfl rfl rfl ?_
        refine r_get 86 (aR 220) dX14_bit_83 fkX14_38 (fun h => party_c P W hp h) (party_n hp) rfl rfl ?_
        refine r_get 89 (aR 140) dX14_bit_86 fkX14_58 (fun _ => dsC_220 P W _) nn220 rfl rfl ?_
        refine r_get 92 (aR 141) dX14_bit_89 fkX14_89 (fun _ => dsC_140 P W _) nn140 rfl rfl ?_
        refine r_iload 94 0 dX14_bit_92 rfl rfl ?_
        refine r_iald 95 dX14_bit_94 (fun _ _ _ => dsC_141 P W _) (fun _ _ => nn141) rfl ?_
        refine r_callvI 98 (Mc := MPa_shareOf P W) (o := 1000 + 32 * p) (as := [aI (G 141 (G 222 ((G 224 x2) + (x3 / 2))))]) (st := []) dX14_bit_95 rfl (c_Pa_shareOf P W p hp (G 141 (G 222 ((G 224 x2) + (x3 / 2)))) G) lkX14_80 (cmPa_shareOf P W) rfl rfl rfl (fun h => party_c P W hp h) (party_n hp) rfl (Nat.le_of_ble_eq_true rfl) (Nat.le_of_ble_eq_true rfl) (fun _ => rfl) rfl (fun z5 G6 => ?_)
        refine r_aload_n 99 1 dX14_bit_98 rfl rfl rfl ?_
        refine r_get 102 (aR (1000 + 32 * p + 5)) dX14_bit_99 fkX14_25 (fun h => party_c P W hp h) (party_n hp) rfl rfl ?_
        refine r_iload 104 0 dX14_bit_102 rfl rfl ?_
        refine r_callvI 107 (Mc := MBt_get P W) (o := 1000 + 32 * p + 5) (as := [aI (G 222 ((G 224 x2) + (x3 / 2)))]) (st := [aI z5]) dX14_bit_104 rfl (c_Bt_get P W (1000 + 32 * p + 5) (isB_p5 hp) (G 222 ((G 224 x2) + (x3 / 2))) G6) lkX14_69 (cmBt_get P W) rfl rfl rfl (fun h => isB_c P W (isB_p5 hp) h) (isB_n (isB_p5 hp)) rfl (Nat.le_of_ble_eq_true rfl) (Nat.le_of_ble_eq_true rfl) (fun _ => rfl) rfl (fun z7 G8 => ?_)
        refine r_ixor 108 dX14_bit_107 rfl ?_
        refine r_goto 138 dX14_bit_108 rfl ?_
        exact r_ireturn dX14_bit_138 rfl
    · refine r_aload_n 39 0 dX14_bit_38 rfl rfl rfl ?_
      refine r_aload_n 40 0 dX14_bit_39 rfl rfl rfl ?_
      refine r_get 43 (aR 220) dX14_bit_40 fkX14_38 (fun h => party_c P W hp h) (party_n hp) rfl rfl ?_
      refine r_get 46 (aR 229) dX14_bit_43 fkX14_77 (fun _ => dsC_220 P W _) nn220 rfl rfl ?_
      refine r_iload_n 47 3 dX14_bit_46 rfl rfl rfl ?_
      refine r_iald 48 dX14_bit_47 (fun _ _ _ => dsC_229 P W _) (fun _ _ => nn229) rfl ?_
      refine r_callvI 51 (Mc := MPa_shareOf P W) (o := 1000 + 32 * p) (as := [aI (G 229 x3)]) (st := []) dX14_bit_48 rfl (c_Pa_shareOf P W p hp (G 229 x3) G) lkX14_80 (cmPa_shareOf P W) rfl rfl rfl (fun h => party_c P W hp h) (party_n hp) rfl (Nat.le_of_ble_eq_true rfl) (Nat.le_of_ble_eq_true rfl) (fun _ => rfl) rfl (fun z9 G10 => ?_)
      exact r_ireturn dX14_bit_51 rfl
  · refine r_aload_n 5 1 dX14_bit_4 rfl rfl rfl ?_
    refine r_get 8 (aR (1000 + 32 * p1 + 3)) dX14_bit_5 fkX14_21 (fun h => party_c P W hp1 h) (party_n hp1) rfl rfl ?_
    refine r_aload_n 9 0 dX14_bit_8 rfl rfl rfl ?_
    refine r_get 12 (aR 220) dX14_bit_9 fkX14_38 (fun h => party_c P W hp h) (party_n hp) rfl rfl ?_
    refine r_aload_n 13 0 dX14_bit_12 rfl rfl rfl ?_
    refine r_get 16 (aI p) dX14_bit_13 fkX14_42 (fun h => party_c P W hp h) (party_n hp) (party_num P W) rfl ?_
    refine r_iload_n 17 3 dX14_bit_16 rfl rfl rfl ?_
    refine r_callvI 20 (Mc := MPl_wireOf P W) (o := 220) (as := [aI p, aI x3]) (st := [aR (1000 + 32 * p1 + 3)]) dX14_bit_17 rfl (c_Pl_wireOf P W p x3 G) lkX14_73 (cmPl_wireOf P W) rfl rfl rfl (fun _ => dsC_220 P W _) nn220 rfl (Nat.le_of_ble_eq_true rfl) (Nat.le_of_ble_eq_true rfl) (fun _ => rfl) rfl (fun z11 G12 => ?_)
    refine r_callvI 23 (Mc := MBt_get P W) (o := 1000 + 32 * p1 + 3) (as := [aI z11]) (st := []) dX14_bit_20 rfl (c_Bt_get P W (1000 + 32 * p1 + 3) (isB_p3 hp1) z11 G12) lkX14_69 (cmBt_get P W) rfl rfl rfl (fun h => isB_c P W (isB_p3 hp1) h) (isB_n (isB_p3 hp1)) rfl (Nat.le_of_ble_eq_true rfl) (Nat.le_of_ble_eq_true rfl) (fun _ => rfl) rfl (fun z13 G14 => ?_)
    exact r_ireturn dX14_bit_23 rfl
theorem c_Pa_bit (P W : Int) (p : Int) (hp : 0 ≤ p) (p1 : Int) (x2 : Int) (x3 : Int) (hp1 : 0 ≤ p1) (G : St) : MG (MPa_bit P W) [aR (1000 + 32 * p), aR (1000 + 32 * p1), aI x2, aI x3] G (Pa_bit P W p p1 x2 x3 G) := MG.of plX14 (Nat.le_of_ble_eq_true rfl) (s_Pa_bit P W p hp p1 x2 x3 hp1 G)
theorem s_Pl_owned (P W : Int) (x1 : Int) (G : St) : SS (MPl_owned P W) some 0 [(0, aR 220), (1, aI x1)] [] G (Pl_owned P W x1 G) := by
  refine r_aload_n 1 0 dX13_owned_0 rfl rfl rfl ?_
  refine r_get 4 (aR 228) dX13_owned_1 fkX13_46 (fun _ => dsC_220 P W _) nn220 rfl rfl ?_
  refine r_iload_n 5 1 dX13_owned_4 rfl rfl rfl ?_
  refine r_iconst 6 1 dX13_owned_5 rfl rfl ?_
  refine r_iadd 7 dX13_owned_6 rfl ?_
  refine r_iald 8 dX13_owned_7 (fun _ _ _ => dsC_228 P W _) (fun _ _ => nn228) rfl ?_
  refine r_aload_n 9 0 dX13_owned_8 rfl rfl rfl ?_
  refine r_get 12 (aR 228) dX13_owned_9 fkX13_46 (fun _ => dsC_220 P W _) nn220 rfl rfl ?_
  refine r_iload_n 13 1 dX13_owned_12 rfl rfl rfl ?_
  refine r_iald 14 dX13_owned_13 (fun _ _ _ => dsC_228 P W _) (fun _ _ => nn228) rfl ?_
  refine r_isub 15 dX13_owned_14 rfl ?_
  exact r_ireturn dX13_owned_15 rfl
theorem c_Pl_owned (P W : Int) (x1 : Int) (G : St) : MG (MPl_owned P W) [aR 220, aI x1] G (Pl_owned P W x1 G) := MG.of plX13 (Nat.le_of_ble_eq_true rfl) (s_Pl_owned P W x1 G)
theorem s_Pl_length (P W : Int) (x1 : Int) (x2 : Int) (G : St) : SS (MPl_length P W) some 0 [(0, aR 220), (1, aI x1), (2, aI x2)] [] G (Pl_length P W x1 x2 G) := by
  refine r_iload_n 1 2 dX13_length_0 rfl rfl rfl ?_
  refine r_if_ne 10 4 dX13_length_1 rfl rfl ?_ ?_
  · refine r_iload_n 11 2 dX13_length_10 rfl rfl rfl ?_
    refine r_aload_n 12 0 dX13_length_11 rfl rfl rfl ?_
    refine r_get 15 (aR 140) dX13_length_12 fkX13_35 (fun _ => dsC_220 P W _) nn220 rfl rfl ?_
    refine r_get 18 (aI (G 140 7)) dX13_length_15 fkX13_84 (fun _ => dsC_140 P W _) nn140 rfl rfl ?_
    refine r_icmp_le 28 21 dX13_length_18 rfl rfl ?_ ?_
    · refine r_iconst 29 2 dX13_length_28 rfl rfl ?_
      refine r_aload_n 30 0 dX13_length_29 rfl rfl rfl ?_
      refine r_get 33 (aR 224) dX13_length_30 fkX13_22 (fun _ => dsC_220 P W _) nn220 rfl rfl ?_
      refine r_iload_n 34 2 dX13_length_33 rfl rfl rfl ?_
      refine r_iconst 35 1 dX13_length_34 rfl rfl ?_
      refine r_iadd 36 dX13_length_35 rfl ?_
      refine r_iald 37 dX13_length_36 (fun _ _ _ => dsC_224 P W _) (fun _ _ => nn224) rfl ?_
      refine r_aload_n 38 0 dX13_length_37 rfl rfl rfl ?_
      refine r_get 41 (aR 224) dX13_length_38 fkX13_22 (fun _ => dsC_220 P W _) nn220 rfl rfl ?_
      refine r_iload_n 42 2 dX13_length_41 rfl rfl rfl ?_
      refine r_iald 43 dX13_length_42 (fun _ _ _ => dsC_224 P W _) (fun _ _ => nn224) rfl ?_
      refine r_isub 44 dX13_length_43 rfl ?_
      refine r_imul 45 dX13_length_44 rfl ?_
      exact r_ireturn dX13_length_45 rfl
    · refine r_aload_n 22 0 dX13_length_21 rfl rfl rfl ?_
      refine r_get 25 (aI (G 220 12)) dX13_length_22 fkX13_69 (fun _ => dsC_220 P W _) nn220 rfl rfl ?_
      refine r_goto 45 dX13_length_25 rfl ?_
      exact r_ireturn dX13_length_45 rfl
  · refine r_aload_n 5 0 dX13_length_4 rfl rfl rfl ?_
    refine r_iload_n 6 1 dX13_length_5 rfl rfl rfl ?_
    refine r_callvI 9 (Mc := MPl_owned P W) (o := 220) (as := [aI x1]) (st := []) dX13_length_6 rfl (c_Pl_owned P W x1 G) lkX13_98 (cmPl_owned P W) rfl rfl rfl (fun _ => dsC_220 P W _) nn220 rfl (Nat.le_of_ble_eq_true rfl) (Nat.le_of_ble_eq_true rfl) (fun _ => rfl) rfl (fun z1 G2 => ?_)
    exact r_ireturn dX13_length_9 rfl
theorem c_Pl_length (P W : Int) (x1 : Int) (x2 : Int) (G : St) : MG (MPl_length P W) [aR 220, aI x1, aI x2] G (Pl_length P W x1 x2 G) := MG.of plX13 (Nat.le_of_ble_eq_true rfl) (s_Pl_length P W x1 x2 G)
theorem s_Ho_message_b64 (P W : Int) (x1 : Int) (G : St) : SS (MHo_message P W) some 64 [(0, aR 100), (1, aI x1)] [] G (Ho_message_b64 P W x1 G) := by
  refine r_aload_n 65 0 dX1_message_64 rfl rfl rfl ?_
  refine r_get 68 (aR 170) dX1_message_65 fkX1_129 (fun _ => dsC_100 P W _) nn100 rfl rfl ?_
  refine r_iload_n 69 1 dX1_message_68 rfl rfl rfl ?_
  refine r_iald 70 dX1_message_69 (fun _ _ _ => dsC_170 P W _) (fun _ _ => nn170) rfl ?_
  exact r_ireturn dX1_message_70 rfl
theorem s_Ho_message_b71 (P W : Int) (x1 : Int) (G : St) : SS (MHo_message P W) some 71 [(0, aR 100), (1, aI x1)] [] G (Ho_message_b71 P W x1 G) := by
  refine r_aload_n 72 0 dX1_message_71 rfl rfl rfl ?_
  refine r_get 75 (aR 171) dX1_message_72 fkX1_132 (fun _ => dsC_100 P W _) nn100 rfl rfl ?_
  refine r_iload_n 76 1 dX1_message_75 rfl rfl rfl ?_
  refine r_iald 77 dX1_message_76 (fun _ _ _ => dsC_171 P W _) (fun _ _ => nn171) rfl ?_
  exact r_ireturn dX1_message_77 rfl
theorem s_Ho_message_b78 (P W : Int) (x1 : Int) (G : St) : SS (MHo_message P W) some 78 [(0, aR 100), (1, aI x1)] [] G (Ho_message_b78 P W x1 G) := by
  refine r_aload_n 79 0 dX1_message_78 rfl rfl rfl ?_
  refine r_get 82 (aR 172) dX1_message_79 fkX1_135 (fun _ => dsC_100 P W _) nn100 rfl rfl ?_
  refine r_iload_n 83 1 dX1_message_82 rfl rfl rfl ?_
  refine r_iald 84 dX1_message_83 (fun _ _ _ => dsC_172 P W _) (fun _ _ => nn172) rfl ?_
  exact r_ireturn dX1_message_84 rfl
theorem s_Ho_message_b85 (P W : Int) (x3 : Int) (G : St) : SS (MHo_message P W) some 85 [(3, aI x3)] [] G (Ho_message_b85 P W x3 G) := by
  refine r_iload_n 86 0 dX1_message_85 rfl rfl rfl ?_
  exact r_ireturn dX1_message_86 rfl
theorem s_Ho_message_b87 (P W : Int) (x1 : Int) (x2 : Int) (x3 : Int) (G : St) : SS (MHo_message P W) some 87 [(0, aR 100), (1, aI x1), (2, aI x2), (3, aI x3)] [] G (Ho_message_b87 P W x1 x2 x3 G) := by
  refine r_iload_n 88 2 dX1_message_87 rfl rfl rfl ?_
  refine r_iconst 89 4 dX1_message_88 rfl rfl ?_
  refine r_icmp_lt 136 92 dX1_message_89 rfl rfl ?_ ?_
  · refine r_iconst 137 (-1) dX1_message_136 rfl rfl ?_
    exact r_ireturn dX1_message_137 rfl
  · refine r_iload_n 93 2 dX1_message_92 rfl rfl rfl ?_
    refine r_iconst 94 4 dX1_message_93 rfl rfl ?_
    refine r_isub 95 dX1_message_94 rfl ?_
    refine r_iload_n 96 3 dX1_message_95 rfl rfl rfl ?_
    refine r_icmp_ge 136 99 dX1_message_96 rfl rfl ?_ ?_
    · refine r_iconst 137 (-1) dX1_message_136 rfl rfl ?_
      exact r_ireturn dX1_message_137 rfl
    · refine r_aload_n 100 0 dX1_message_99 rfl rfl rfl ?_
      refine r_get 103 (aR 103) dX1_message_100 fkX1_122 (fun _ => dsC_100 P W _) nn100 rfl rfl ?_
      refine r_aload_n 104 0 dX1_message_103 rfl rfl rfl ?_
      refine r_get 107 (aR 170) dX1_message_104 fkX1_129 (fun _ => dsC_100 P W _) nn100 rfl rfl ?_
      refine r_iload_n 108 1 dX1_message_107 rfl rfl rfl ?_
      refine r_iald 109 dX1_message_108 (fun _ _ _ => dsC_170 P W _) (fun _ _ => nn170) rfl ?_
      refine r_aald8q 110 dX1_message_109 (fun _ _ _ => dsC_103 P W _) (fun _ _ => nn103) rfl (fun p3 hp3 => ?_)
      refine r_aload_n 111 0 dX1_message_110 rfl rfl rfl ?_
      refine r_get 114 (aR 103) dX1_message_111 fkX1_122 (fun _ => dsC_100 P W _) nn100 rfl rfl ?_
      refine r_aload_n 115 0 dX1_message_114 rfl rfl rfl ?_
      refine r_get 118 (aR 171) dX1_message_115 fkX1_132 (fun _ => dsC_100 P W _) nn100 rfl rfl ?_
      refine r_iload_n 119 1 dX1_message_118 rfl rfl rfl ?_
      refine r_iald 120 dX1_message_119 (fun _ _ _ => dsC_171 P W _) (fun _ _ => nn171) rfl ?_
      refine r_aald8q 121 dX1_message_120 (fun _ _ _ => dsC_103 P W _) (fun _ _ => nn103) rfl (fun p4 hp4 => ?_)
      refine r_aload_n 122 0 dX1_message_121 rfl rfl rfl ?_
      refine r_get 125 (aR 172) dX1_message_122 fkX1_135 (fun _ => dsC_100 P W _) nn100 rfl rfl ?_
      refine r_iload_n 126 1 dX1_message_125 rfl rfl rfl ?_
      refine r_iald 127 dX1_message_126 (fun _ _ _ => dsC_172 P W _) (fun _ _ => nn172) rfl ?_
      refine r_iload_n 128 2 dX1_message_127 rfl rfl rfl ?_
      refine r_iconst 129 4 dX1_message_128 rfl rfl ?_
      refine r_isub 130 dX1_message_129 rfl ?_
      refine r_callvI 133 (Mc := MPa_bit P W) (o := 1000 + 32 * p3) (as := [aR (1000 + 32 * p4), aI (G 172 x1), aI (x2 - 4)]) (st := []) dX1_message_130 rfl (c_Pa_bit P W p3 hp3 p4 (G 172 x1) (x2 - 4) hp4 G) lkX1_305 (cmPa_bit P W) rfl rfl rfl (fun h => party_c P W hp3 h) (party_n hp3) rfl (Nat.le_of_ble_eq_true rfl) (Nat.le_of_ble_eq_true rfl) (fun _ => rfl) rfl (fun z5 G6 => ?_)
      refine r_goto 137 dX1_message_133 rfl ?_
      exact r_ireturn dX1_message_137 rfl
theorem s_Ho_message (P W : Int) (x1 : Int) (x2 : Int) (G : St) : SS (MHo_message P W) some 0 [(0, aR 100), (1, aI x1), (2, aI x2)] [] G (Ho_message P W x1 x2 G) := by
  refine r_iload_n 1 1 dX1_message_0 rfl rfl rfl ?_
  refine r_if_lt 12 4 dX1_message_1 rfl rfl ?_ ?_
  · refine r_iconst 13 (-1) dX1_message_12 rfl rfl ?_
    exact r_ireturn dX1_message_13 rfl
  · refine r_iload_n 5 1 dX1_message_4 rfl rfl rfl ?_
    refine r_aload_n 6 0 dX1_message_5 rfl rfl rfl ?_
    refine r_get 9 (aI (G 100 23)) dX1_message_6 fkX1_157 (fun _ => dsC_100 P W _) nn100 rfl rfl ?_
    refine r_icmp_lt 14 12 dX1_message_9 rfl rfl ?_ ?_
    · refine r_aload_n 15 0 dX1_message_14 rfl rfl rfl ?_
      refine r_get 18 (aR 220) dX1_message_15 fkX1_116 (fun _ => dsC_100 P W _) nn100 rfl rfl ?_
      refine r_aload_n 19 0 dX1_message_18 rfl rfl rfl ?_
      refine r_get 22 (aR 170) dX1_message_19 fkX1_129 (fun _ => dsC_100 P W _) nn100 rfl rfl ?_
      refine r_iload_n 23 1 dX1_message_22 rfl rfl rfl ?_
      refine r_iald 24 dX1_message_23 (fun _ _ _ => dsC_170 P W _) (fun _ _ => nn170) rfl ?_
      refine r_aload_n 25 0 dX1_message_24 rfl rfl rfl ?_
      refine r_get 28 (aR 172) dX1_message_25 fkX1_135 (fun _ => dsC_100 P W _) nn100 rfl rfl ?_
      refine r_iload_n 29 1 dX1_message_28 rfl rfl rfl ?_
      refine r_iald 30 dX1_message_29 (fun _ _ _ => dsC_172 P W _) (fun _ _ => nn172) rfl ?_
      refine r_callvI 33 (Mc := MPl_length P W) (o := 220) (as := [aI (G 170 x1), aI (G 172 x1)]) (st := []) dX1_message_30 rfl (c_Pl_length P W (G 170 x1) (G 172 x1) G) lkX1_302 (cmPl_length P W) rfl rfl rfl (fun _ => dsC_220 P W _) nn220 rfl (Nat.le_of_ble_eq_true rfl) (Nat.le_of_ble_eq_true rfl) (fun _ => rfl) rfl (fun z1 G2 => ?_)
      refine r_istore_n 34 [(3, aI z1), (0, aR 100), (1, aI x1), (2, aI x2)] dX1_message_33 rfl rfl rfl rfl ?_
      refine r_iload_n 35 3 dX1_message_34 rfl rfl rfl ?_
      refine r_tsw 87 [(64, Ho_message_b64 P W x1 G2), (71, Ho_message_b71 P W x1 G2), (78, Ho_message_b78 P W x1 G2), (85, Ho_message_b85 P W z1 G2)] dX1_message_35 rfl rfl rfl ⟨?_, ?_, ?_, ?_, trivial⟩ ?_
      · refine r_to [1, 2] [(0, aR 100), (1, aI x1)] rfl ?_
        exact s_Ho_message_b64 P W x1 G2
      · refine r_to [1, 2] [(0, aR 100), (1, aI x1)] rfl ?_
        exact s_Ho_message_b71 P W x1 G2
      · refine r_to [1, 2] [(0, aR 100), (1, aI x1)] rfl ?_
        exact s_Ho_message_b78 P W x1 G2
      · refine r_to [0] [(3, aI z1)] rfl ?_
        exact s_Ho_message_b85 P W z1 G2
      · refine r_to [1, 2, 3, 0] [(0, aR 100), (1, aI x1), (2, aI x2), (3, aI z1)] rfl ?_
        exact s_Ho_message_b87 P W x1 x2 z1 G2
    · refine r_iconst 13 (-1) dX1_message_12 rfl rfl ?_
      exact r_ireturn dX1_message_13 rfl
theorem c_Ho_message (P W : Int) (x1 : Int) (x2 : Int) (G : St) : MG (MHo_message P W) [aR 100, aI x1, aI x2] G (Ho_message P W x1 x2 G) := MG.of plX1 (Nat.le_of_ble_eq_true rfl) (s_Ho_message P W x1 x2 G)
theorem s_Pa_product_b113 (P W : Int) (p : Int) (hp : 0 ≤ p) (s0 : Int) (s1 : Int) (G : St) : SS (MPa_product P W) some 113 [] [aI s0, aI s1] G (Pa_product_b113 P W p s0 s1 G) := by
  refine r_ixor 114 dX14_product_113 rfl ?_
  exact r_ireturn dX14_product_114 rfl
theorem s_Pa_product_s9 (P W : Int) (p : Int) (hp : 0 ≤ p) (x2 : Int) (x3 : Int) (X9 : Int × Int × Int × St → Option (Int × St)) (hX9 : ∀ s, So (MPa_product P W) 9 [(0, aR (1000 + 32 * p)), (1, aR 103), (2, aI x2), (3, aI x3), (4, aI (s.1)), (5, aI (s.2.1)), (6, aI (s.2.2.1))] [] s.2.2.2 (X9 s)) (x4 : Int) (x5 : Int) (x6 : Int) (G : St) : SS (MPa_product P W) (lk X9 some) 9 [(0, aR (1000 + 32 * p)), (1, aR 103), (2, aI x2), (3, aI x3), (4, aI x4), (5, aI x5), (6, aI x6)] [] G (Pa_product_s9 P W p x2 x3 x4 x5 x6 G) := by
  refine r_iload 11 6 dX14_product_9 rfl rfl ?_
  refine r_aload_n 12 0 dX14_product_11 rfl rfl rfl ?_
  refine r_get 15 (aR 220) dX14_product_12 fkX14_38 (fun h => party_c P W hp h) (party_n hp) rfl rfl ?_
  refine r_get 18 (aI P) dX14_product_15 fkX14_101 (fun _ => dsC_220 P W _) nn220 rfl rfl ?_
  refine r_icmp_ge 65 21 dX14_product_18 rfl rfl ?_ ?_
  · refine SS.ex ?_
    refine r_aload_n 66 0 dX14_product_65 rfl rfl rfl ?_
    refine r_get 69 (aR (1000 + 32 * p + 9)) dX14_product_66 fkX14_31 (fun h => party_c P W hp h) (party_n hp) rfl rfl ?_
    refine r_iload_n 70 2 dX14_product_69 rfl rfl rfl ?_
    refine r_callvI 73 (Mc := MBt_get P W) (o := 1000 + 32 * p + 9) (as := [aI x2]) (st := []) dX14_product_70 rfl (c_Bt_get P W (1000 + 32 * p + 9) (isB_p9 hp) x2 G) lkX14_69 (cmBt_get P W) rfl rfl rfl (fun h => isB_c P W (isB_p9 hp) h) (isB_n (isB_p9 hp)) rfl (Nat.le_of_ble_eq_true rfl) (Nat.le_of_ble_eq_true rfl) (fun _ => rfl) rfl (fun z1 G2 => ?_)
    refine r_iload 75 4 dX14_product_73 rfl rfl ?_
    refine r_aload_n 76 0 dX14_product_75 rfl rfl rfl ?_
    refine r_get 79 (aR (1000 + 32 * p + 7)) dX14_product_76 fkX14_28 (fun h => party_c P W hp h) (party_n hp) rfl rfl ?_
    refine r_iload_n 80 2 dX14_product_79 rfl rfl rfl ?_
    refine r_callvI 83 (Mc := MBt_get P W) (o := 1000 + 32 * p + 7) (as := [aI x2]) (st := [aI x4, aI z1]) dX14_product_80 rfl (c_Bt_get P W (1000 + 32 * p + 7) (isB_p7 hp) x2 G2) lkX14_69 (cmBt_get P W) rfl rfl rfl (fun h => isB_c P W (isB_p7 hp) h) (isB_n (isB_p7 hp)) rfl (Nat.le_of_ble_eq_true rfl) (Nat.le_of_ble_eq_true rfl) (fun _ => rfl) rfl (fun z3 G4 => ?_)
    refine r_iand 84 dX14_product_83 rfl ?_
    refine r_ixor 85 dX14_product_84 rfl ?_
    refine r_iload 87 5 dX14_product_85 rfl rfl ?_
    refine r_aload_n 88 0 dX14_product_87 rfl rfl rfl ?_
    refine r_get 91 (aR (1000 + 32 * p + 5)) dX14_product_88 fkX14_25 (fun h => party_c P W hp h) (party_n hp) rfl rfl ?_
    refine r_iload_n 92 2 dX14_product_91 rfl rfl rfl ?_
    refine r_callvI 95 (Mc := MBt_get P W) (o := 1000 + 32 * p + 5) (as := [aI x2]) (st := [aI x5, aI (j_xo z1 (j_an x4 z3))]) dX14_product_92 rfl (c_Bt_get P W (1000 + 32 * p + 5) (isB_p5 hp) x2 G4) lkX14_69 (cmBt_get P W) rfl rfl rfl (fun h => isB_c P W (isB_p5 hp) h) (isB_n (isB_p5 hp)) rfl (Nat.le_of_ble_eq_true rfl) (Nat.le_of_ble_eq_true rfl) (fun _ => rfl) rfl (fun z5 G6 => ?_)
    refine r_iand 96 dX14_product_95 rfl ?_
    refine r_ixor 97 dX14_product_96 rfl ?_
    refine r_aload_n 98 0 dX14_product_97 rfl rfl rfl ?_
    refine r_get 101 (aI p) dX14_product_98 fkX14_42 (fun h => party_c P W hp h) (party_n hp) (party_num P W) rfl ?_
    refine r_if_ne 112 104 dX14_product_101 rfl rfl ?_ ?_
    · refine r_iconst 113 0 dX14_product_112 rfl rfl ?_
      refine r_to [] [] rfl ?_
      exact s_Pa_product_b113 P W p hp 0 (j_xo (j_xo z1 (j_an x4 z3)) (j_an x5 z5)) G6
    · refine r_iload 106 4 dX14_product_104 rfl rfl ?_
      refine r_iload 108 5 dX14_product_106 rfl rfl ?_
      refine r_iand 109 dX14_product_108 rfl ?_
      refine r_goto 113 dX14_product_109 rfl ?_
      refine r_to [] [] rfl ?_
      exact s_Pa_product_b113 P W p hp (j_an x4 x5) (j_xo (j_xo z1 (j_an x4 z3)) (j_an x5 z5)) G6
  · refine r_iload 23 4 dX14_product_21 rfl rfl ?_
    refine r_aload_n 24 1 dX14_product_23 rfl rfl rfl ?_
    refine r_iload 26 6 dX14_product_24 rfl rfl ?_
    refine r_aald8q 27 dX14_product_26 (fun _ _ _ => dsC_103 P W _) (fun _ _ => nn103) rfl (fun p7 hp7 => ?_)
    refine r_aload_n 28 0 dX14_product_27 rfl rfl rfl ?_
    refine r_aload_n 29 0 dX14_product_28 rfl rfl rfl ?_
    refine r_get 32 (aI (G (1000 + 32 * p) 7)) dX14_product_29 fkX14_46 (fun h => party_c P W hp h) (party_n hp) rfl rfl ?_
    refine r_iload_n 33 3 dX14_product_32 rfl rfl rfl ?_
    refine r_callvI 36 (Mc := MPa_bit P W) (o := 1000 + 32 * p7) (as := [aR (1000 + 32 * p), aI (G (1000 + 32 * p) 7), aI x3]) (st := [aI x4]) dX14_product_33 rfl (c_Pa_bit P W p7 hp7 p (G (1000 + 32 * p) 7) x3 hp G) lkX14_132 (cmPa_bit P W) rfl rfl rfl (fun h => party_c P W hp7 h) (party_n hp7) rfl (Nat.le_of_ble_eq_true rfl) (Nat.le_of_ble_eq_true rfl) (fun _ => rfl) rfl (fun z8 G9 => ?_)
    refine r_ixor 37 dX14_product_36 rfl ?_
    refine r_istore 39 [(4, aI (j_xo x4 z8)), (0, aR (1000 + 32 * p)), (1, aR 103), (2, aI x2), (3, aI x3), (5, aI x5), (6, aI x6)] dX14_product_37 rfl rfl rfl ?_
    refine r_iload 41 5 dX14_product_39 rfl rfl ?_
    refine r_aload_n 42 2 dX14_product_41 rfl rfl rfl ?_
    refine r_iload 44 6 dX14_product_42 rfl rfl ?_
    refine r_aald8q 45 dX14_product_44 (fun _ _ _ => dsC_103 P W _) (fun _ _ => nn103) rfl (fun p10 hp10 => ?_)
    refine r_aload_n 46 1 dX14_product_45 rfl rfl rfl ?_
    refine r_aload_n 47 1 dX14_product_46 rfl rfl rfl ?_
    refine r_get 50 (aI (G9 (1000 + 32 * p) 7)) dX14_product_47 fkX14_46 (fun h => party_c P W hp h) (party_n hp) rfl rfl ?_
    refine r_iload_n 51 4 dX14_product_50 rfl rfl rfl ?_
    refine r_iconst 52 1 dX14_product_51 rfl rfl ?_
    refine r_iadd 53 dX14_product_52 rfl ?_
    refine r_callvI 56 (Mc := MPa_bit P W) (o := 1000 + 32 * p10) (as := [aR (1000 + 32 * p), aI (G9 (1000 + 32 * p) 7), aI (x3 + 1)]) (st := [aI x5]) dX14_product_53 rfl (c_Pa_bit P W p10 hp10 p (G9 (1000 + 32 * p) 7) (x3 + 1) hp G9) lkX14_132 (cmPa_bit P W) rfl rfl rfl (fun h => party_c P W hp10 h) (party_n hp10) rfl (Nat.le_of_ble_eq_true rfl) (Nat.le_of_ble_eq_true rfl) (fun _ => rfl) rfl (fun z11 G12 => ?_)
    refine r_ixor 57 dX14_product_56 rfl ?_
    refine r_istore 59 [(5, aI (j_xo x5 z11)), (4, aI (j_xo x4 z8)), (0, aR (1000 + 32 * p)), (1, aR 103), (2, aI x2), (3, aI x3), (6, aI x6)] dX14_product_57 rfl rfl rfl ?_
    refine r_iinc 62 [(6, aI (x6 + 1)), (5, aI (j_xo x5 z11)), (4, aI (j_xo x4 z8)), (0, aR (1000 + 32 * p)), (1, aR 103), (2, aI x2), (3, aI x3)] 6 dX14_product_59 rfl rfl rfl rfl ?_
    refine r_goto 9 dX14_product_62 rfl ?_
    refine r_to [3, 4, 5, 6, 2, 1, 0] [(0, aR (1000 + 32 * p)), (1, aR 103), (2, aI x2), (3, aI x3), (4, aI (j_xo x4 z8)), (5, aI (j_xo x5 z11)), (6, aI (x6 + 1))] rfl ?_
    exact SS.back (hX9 (j_xo x4 z8, j_xo x5 z11, x6 + 1, G12))
theorem sl_Pa_product_9 (P W : Int) (p : Int) (hp : 0 ≤ p) (x2 : Int) (x3 : Int) (x4 : Int) (x5 : Int) (x6 : Int) (G : St) : SS (MPa_product P W) some 9 [(0, aR (1000 + 32 * p)), (1, aR 103), (2, aI x2), (3, aI x3), (4, aI x4), (5, aI x5), (6, aI x6)] [] G (Pa_product_l9 P W p x2 x3 x4 x5 x6 G) := by
  exact SS.loop (σ := Int × Int × Int × St) (fun s => [(0, aR (1000 + 32 * p)), (1, aR 103), (2, aI x2), (3, aI x3), (4, aI (s.1)), (5, aI (s.2.1)), (6, aI (s.2.2.1))]) (fun s => s.2.2.2) (fun s => Pa_product_s9 P W p x2 x3 s.1 s.2.1 s.2.2.1 s.2.2.2) (fun X9 hX9 s => s_Pa_product_s9 P W p hp x2 x3  X9 hX9 s.1 s.2.1 s.2.2.1 s.2.2.2) (x4, x5, x6, G)
theorem s_Pa_product (P W : Int) (p : Int) (hp : 0 ≤ p) (x2 : Int) (x3 : Int) (G : St) : SS (MPa_product P W) some 0 [(0, aR (1000 + 32 * p)), (1, aR 103), (2, aI x2), (3, aI x3)] [] G (Pa_product P W p x2 x3 G) := by
  refine r_iconst 1 0 dX14_product_0 rfl rfl ?_
  refine r_istore 3 [(4, aI 0), (0, aR (1000 + 32 * p)), (1, aR 103), (2, aI x2), (3, aI x3)] dX14_product_1 rfl rfl rfl ?_
  refine r_iconst 4 0 dX14_product_3 rfl rfl ?_
  refine r_istore 6 [(5, aI 0), (4, aI 0), (0, aR (1000 + 32 * p)), (1, aR 103), (2, aI x2), (3, aI x3)] dX14_product_4 rfl rfl rfl ?_
  refine r_iconst 7 0 dX14_product_6 rfl rfl ?_
  refine r_istore 9 [(6, aI 0), (5, aI 0), (4, aI 0), (0, aR (1000 + 32 * p)), (1, aR 103), (2, aI x2), (3, aI x3)] dX14_product_7 rfl rfl rfl ?_
  refine r_to [3, 4, 5, 6, 2, 1, 0] [(0, aR (1000 + 32 * p)), (1, aR 103), (2, aI x2), (3, aI x3), (4, aI 0), (5, aI 0), (6, aI 0)] rfl ?_
  exact sl_Pa_product_9 P W p hp x2 x3 0 0 0 G
theorem c_Pa_product (P W : Int) (p : Int) (hp : 0 ≤ p) (x2 : Int) (x3 : Int) (G : St) : MG (MPa_product P W) [aR (1000 + 32 * p), aR 103, aI x2, aI x3] G (Pa_product P W p x2 x3 G) := MG.of plX14 (Nat.le_of_ble_eq_true rfl) (s_Pa_product P W p hp x2 x3 G)
theorem s_Pa_learn_b170 (P W : Int) (p : Int) (hp : 0 ≤ p) (X75 : Int × Int × St → Option (Int × St)) (hX75 : ∀ s, So (MPa_learn P W) 75 [(0, aR (1000 + 32 * p)), (1, aR 103), (2, aR 140), (3, aI (s.1)), (4, aI (s.2.1))] [] s.2.2 (X75 s)) (x4 : Int) (x5 : Int) (x6 : Int) (s0 : Int) (s1 : Int) (G : St) : SS (MPa_learn P W) (lk X75 some) 170 [(0, aR (1000 + 32 * p)), (1, aR 103), (2, aR 140), (4, aI x4), (5, aI x5), (6, aI x6)] [aI s0, aI s1] G (Pa_learn_b170 P W p x4 x5 x6 s0 s1 G) := by
  refine r_iadd 171 dX14_learn_170 rfl ?_
  refine r_istore_n 172 [(3, aI (s1 + s0)), (0, aR (1000 + 32 * p)), (1, aR 103), (2, aR 140), (4, aI x4), (5, aI x5), (6, aI x6)] dX14_learn_171 rfl rfl rfl rfl ?_
  refine r_aload_n 173 1 dX14_learn_172 rfl rfl rfl ?_
  refine r_get 176 (aR (1000 + 32 * p + 1)) dX14_learn_173 fkX14_15 (fun h => party_c P W hp h) (party_n hp) rfl rfl ?_
  refine r_aload_n 177 3 dX14_learn_176 rfl rfl rfl ?_
  refine r_get 180 (aI (G 140 6)) dX14_learn_177 fkX14_112 (fun _ => dsC_140 P W _) nn140 rfl rfl ?_
  refine r_iload 182 5 dX14_learn_180 rfl rfl ?_
  refine r_iadd 183 dX14_learn_182 rfl ?_
  refine r_iload 185 6 dX14_learn_183 rfl rfl ?_
  refine r_callvV 188 (Mc := MBt_set P W) (o := 1000 + 32 * p + 1) (as := [aI ((G 140 6) + x5), aI x6]) (st := []) dX14_learn_185 rfl (c_Bt_set P W (1000 + 32 * p + 1) (isB_p1 hp) ((G 140 6) + x5) x6 G) lkX14_115 (cmBt_set P W) rfl rfl rfl (fun h => isB_c P W (isB_p1 hp) h) (isB_n (isB_p1 hp)) rfl (Nat.le_of_ble_eq_true rfl) (Nat.le_of_ble_eq_true rfl) (fun _ => rfl) rfl (fun z5 G6 => ?_)
  refine r_iinc 191 [(4, aI (x4 + 1)), (3, aI (s1 + s0)), (0, aR (1000 + 32 * p)), (1, aR 103), (2, aR 140), (5, aI x5), (6, aI x6)] 4 dX14_learn_188 rfl rfl rfl rfl ?_
  refine r_goto 75 dX14_learn_191 rfl ?_
  refine r_to [2, 3, 4, 1, 0] [(0, aR (1000 + 32 * p)), (1, aR 103), (2, aR 140), (3, aI (s1 + s0)), (4, aI (x4 + 1))] rfl ?_
  exact SS.back (hX75 (s1 + s0, x4 + 1, G6))
theorem s_Pa_learn_b152 (P W : Int) (p : Int) (hp : 0 ≤ p) (X75 : Int × Int × St → Option (Int × St)) (hX75 : ∀ s, So (MPa_learn P W) 75 [(0, aR (1000 + 32 * p)), (1, aR 103), (2, aR 140), (3, aI (s.1)), (4, aI (s.2.1))] [] s.2.2 (X75 s)) (x3 : Int) (x4 : Int) (x5 : Int) (s0 : Int) (G : St) : SS (MPa_learn P W) (lk X75 some) 152 [(0, aR (1000 + 32 * p)), (1, aR 103), (2, aR 140), (3, aI x3), (4, aI x4), (5, aI x5)] [aI s0] G (Pa_learn_b152 P W p x3 x4 x5 s0 G) := by
  refine r_istore 154 [(6, aI s0), (0, aR (1000 + 32 * p)), (1, aR 103), (2, aR 140), (3, aI x3), (4, aI x4), (5, aI x5)] dX14_learn_152 rfl rfl rfl ?_
  refine r_iload_n 155 4 dX14_learn_154 rfl rfl rfl ?_
  refine r_aload_n 156 3 dX14_learn_155 rfl rfl rfl ?_
  refine r_get 159 (aR 144) dX14_learn_156 fkX14_125 (fun _ => dsC_140 P W _) nn140 rfl rfl ?_
  refine r_iload 161 6 dX14_learn_159 rfl rfl ?_
  refine r_zald 162 dX14_learn_161 (fun _ _ _ => dsC_144 P W _) (fun _ _ => nn144) rfl ?_
  refine SS.phi (fun VV_ => Pa_learn_b170 P W p x4 x5 s0 VV_ x3 G) ?_
  refine r_if_eq 169 165 dX14_learn_162 rfl rfl ?_ ?_
  · refine r_iconst 170 0 dX14_learn_169 rfl rfl ?_
    refine r_to [1, 2, 3, 5, 6, 0] [(0, aR (1000 + 32 * p)), (1, aR 103), (2, aR 140), (4, aI x4), (5, aI x5), (6, aI s0)] rfl ?_
    exact s_Pa_learn_b170 P W p hp X75 hX75 x4 x5 s0 0 x3 G
  · refine r_iconst 166 1 dX14_learn_165 rfl rfl ?_
    refine r_goto 170 dX14_learn_166 rfl ?_
    refine r_to [1, 2, 3, 5, 6, 0] [(0, aR (1000 + 32 * p)), (1, aR 103), (2, aR 140), (4, aI x4), (5, aI x5), (6, aI s0)] rfl ?_
    exact s_Pa_learn_b170 P W p hp X75 hX75 x4 x5 s0 1 x3 G
theorem s_Pa_learn_s75 (P W : Int) (p : Int) (hp : 0 ≤ p) (X75 : Int × Int × St → Option (Int × St)) (hX75 : ∀ s, So (MPa_learn P W) 75 [(0, aR (1000 + 32 * p)), (1, aR 103), (2, aR 140), (3, aI (s.1)), (4, aI (s.2.1))] [] s.2.2 (X75 s)) (x3 : Int) (x4 : Int) (G : St) : SS (MPa_learn P W) (lk X75 some) 75 [(0, aR (1000 + 32 * p)), (1, aR 103), (2, aR 140), (3, aI x3), (4, aI x4)] [] G (Pa_learn_s75 P W p x3 x4 G) := by
  refine r_iload 77 4 dX14_learn_75 rfl rfl ?_
  refine r_aload_n 78 0 dX14_learn_77 rfl rfl rfl ?_
  refine r_get 81 (aR 220) dX14_learn_78 fkX14_38 (fun h => party_c P W hp h) (party_n hp) rfl rfl ?_
  refine r_get 84 (aR 223) dX14_learn_81 fkX14_119 (fun _ => dsC_220 P W _) nn220 rfl rfl ?_
  refine r_aload_n 85 0 dX14_learn_84 rfl rfl rfl ?_
  refine r_get 88 (aI (G (1000 + 32 * p) 7)) dX14_learn_85 fkX14_46 (fun h => party_c P W hp h) (party_n hp) rfl rfl ?_
  refine r_iconst 89 1 dX14_learn_88 rfl rfl ?_
  refine r_iadd 90 dX14_learn_89 rfl ?_
  refine r_iald 91 dX14_learn_90 (fun _ _ _ => dsC_223 P W _) (fun _ _ => nn223) rfl ?_
  refine r_icmp_ge 194 94 dX14_learn_91 rfl rfl ?_ ?_
  · refine SS.ex ?_
    exact r_return dX14_learn_194 rfl
  · refine r_aload_n 95 0 dX14_learn_94 rfl rfl rfl ?_
    refine r_get 98 (aR 220) dX14_learn_95 fkX14_38 (fun h => party_c P W hp h) (party_n hp) rfl rfl ?_
    refine r_get 101 (aR 221) dX14_learn_98 fkX14_122 (fun _ => dsC_220 P W _) nn220 rfl rfl ?_
    refine r_iload 103 4 dX14_learn_101 rfl rfl ?_
    refine r_iald 104 dX14_learn_103 (fun _ _ _ => dsC_221 P W _) (fun _ _ => nn221) rfl ?_
    refine r_istore 106 [(5, aI (G 221 x4)), (0, aR (1000 + 32 * p)), (1, aR 103), (2, aR 140), (3, aI x3), (4, aI x4)] dX14_learn_104 rfl rfl rfl ?_
    refine r_aload_n 107 3 dX14_learn_106 rfl rfl rfl ?_
    refine r_get 110 (aR 144) dX14_learn_107 fkX14_125 (fun _ => dsC_140 P W _) nn140 rfl rfl ?_
    refine r_iload 112 0 dX14_learn_110 rfl rfl ?_
    refine r_zald 113 dX14_learn_112 (fun _ _ _ => dsC_144 P W _) (fun _ _ => nn144) rfl ?_
    refine r_if_eq 129 116 dX14_learn_113 rfl rfl ?_ ?_
    · refine r_aload_n 130 1 dX14_learn_129 rfl rfl rfl ?_
      refine r_aload_n 131 3 dX14_learn_130 rfl rfl rfl ?_
      refine r_get 134 (aR 141) dX14_learn_131 fkX14_89 (fun _ => dsC_140 P W _) nn140 rfl rfl ?_
      refine r_iload 136 0 dX14_learn_134 rfl rfl ?_
      refine r_iald 137 dX14_learn_136 (fun _ _ _ => dsC_141 P W _) (fun _ _ => nn141) rfl ?_
      refine r_callvI 140 (Mc := MPa_shareOf P W) (o := 1000 + 32 * p) (as := [aI (G 141 (G 221 x4))]) (st := []) dX14_learn_137 rfl (c_Pa_shareOf P W p hp (G 141 (G 221 x4)) G) lkX14_80 (cmPa_shareOf P W) rfl rfl rfl (fun h => party_c P W hp h) (party_n hp) rfl (Nat.le_of_ble_eq_true rfl) (Nat.le_of_ble_eq_true rfl) (fun _ => rfl) rfl (fun z1 G2 => ?_)
      refine r_aload_n 141 1 dX14_learn_140 rfl rfl rfl ?_
      refine r_aload_n 142 3 dX14_learn_141 rfl rfl rfl ?_
      refine r_get 145 (aR 142) dX14_learn_142 fkX14_92 (fun _ => dsC_140 P W _) nn140 rfl rfl ?_
      refine r_iload 147 0 dX14_learn_145 rfl rfl ?_
      refine r_iald 148 dX14_learn_147 (fun _ _ _ => dsC_142 P W _) (fun _ _ => nn142) rfl ?_
      refine r_callvI 151 (Mc := MPa_shareOf P W) (o := 1000 + 32 * p) (as := [aI (G2 142 (G 221 x4))]) (st := [aI z1]) dX14_learn_148 rfl (c_Pa_shareOf P W p hp (G2 142 (G 221 x4)) G2) lkX14_80 (cmPa_shareOf P W) rfl rfl rfl (fun h => party_c P W hp h) (party_n hp) rfl (Nat.le_of_ble_eq_true rfl) (Nat.le_of_ble_eq_true rfl) (fun _ => rfl) rfl (fun z3 G4 => ?_)
      refine r_ixor 152 dX14_learn_151 rfl ?_
      refine r_to [1, 2, 3, 4, 5, 0] [(0, aR (1000 + 32 * p)), (1, aR 103), (2, aR 140), (3, aI x3), (4, aI x4), (5, aI (G 221 x4))] rfl ?_
      exact s_Pa_learn_b152 P W p hp X75 hX75 x3 x4 (G 221 x4) (j_xo z1 z3) G4
    · refine r_aload_n 117 1 dX14_learn_116 rfl rfl rfl ?_
      refine r_aload_n 118 2 dX14_learn_117 rfl rfl rfl ?_
      refine r_iload 120 0 dX14_learn_118 rfl rfl ?_
      refine r_iconst 121 2 dX14_learn_120 rfl rfl ?_
      refine r_iload_n 122 4 dX14_learn_121 rfl rfl rfl ?_
      refine r_imul 123 dX14_learn_122 rfl ?_
      refine r_callvI 126 (Mc := MPa_product P W) (o := 1000 + 32 * p) (as := [aR 103, aI (G 221 x4), aI (2 * x3)]) (st := []) dX14_learn_123 rfl (c_Pa_product P W p hp (G 221 x4) (2 * x3) G) lkX14_128 (cmPa_product P W) rfl rfl rfl (fun h => party_c P W hp h) (party_n hp) rfl (Nat.le_of_ble_eq_true rfl) (Nat.le_of_ble_eq_true rfl) (fun _ => rfl) rfl (fun z7 G8 => ?_)
      refine r_goto 152 dX14_learn_126 rfl ?_
      refine r_to [1, 2, 3, 4, 5, 0] [(0, aR (1000 + 32 * p)), (1, aR 103), (2, aR 140), (3, aI x3), (4, aI x4), (5, aI (G 221 x4))] rfl ?_
      exact s_Pa_learn_b152 P W p hp X75 hX75 x3 x4 (G 221 x4) z7 G8
theorem sl_Pa_learn_75 (P W : Int) (p : Int) (hp : 0 ≤ p) (x3 : Int) (x4 : Int) (G : St) : SS (MPa_learn P W) some 75 [(0, aR (1000 + 32 * p)), (1, aR 103), (2, aR 140), (3, aI x3), (4, aI x4)] [] G (Pa_learn_l75 P W p x3 x4 G) := by
  exact SS.loop (σ := Int × Int × St) (fun s => [(0, aR (1000 + 32 * p)), (1, aR 103), (2, aR 140), (3, aI (s.1)), (4, aI (s.2.1))]) (fun s => s.2.2) (fun s => Pa_learn_s75 P W p s.1 s.2.1 s.2.2) (fun X75 hX75 s => s_Pa_learn_s75 P W p hp   X75 hX75 s.1 s.2.1 s.2.2) (x3, x4, G)
theorem s_Pa_learn_b59 (P W : Int) (p : Int) (hp : 0 ≤ p) (G : St) : SS (MPa_learn P W) some 59 [(0, aR (1000 + 32 * p)), (1, aR 103), (2, aR 140)] [] G (Pa_learn_b59 P W p G) := by
  refine r_iconst 60 0 dX14_learn_59 rfl rfl ?_
  refine r_istore_n 61 [(3, aI 0), (0, aR (1000 + 32 * p)), (1, aR 103), (2, aR 140)] dX14_learn_60 rfl rfl rfl rfl ?_
  refine r_aload_n 62 1 dX14_learn_61 rfl rfl rfl ?_
  refine r_get 65 (aR 220) dX14_learn_62 fkX14_38 (fun h => party_c P W hp h) (party_n hp) rfl rfl ?_
  refine r_get 68 (aR 223) dX14_learn_65 fkX14_119 (fun _ => dsC_220 P W _) nn220 rfl rfl ?_
  refine r_aload_n 69 1 dX14_learn_68 rfl rfl rfl ?_
  refine r_get 72 (aI (G (1000 + 32 * p) 7)) dX14_learn_69 fkX14_46 (fun h => party_c P W hp h) (party_n hp) rfl rfl ?_
  refine r_iald 73 dX14_learn_72 (fun _ _ _ => dsC_223 P W _) (fun _ _ => nn223) rfl ?_
  refine r_istore 75 [(4, aI (G 223 (G (1000 + 32 * p) 7))), (3, aI 0), (0, aR (1000 + 32 * p)), (1, aR 103), (2, aR 140)] dX14_learn_73 rfl rfl rfl ?_
  refine r_to [2, 3, 4, 1, 0] [(0, aR (1000 + 32 * p)), (1, aR 103), (2, aR 140), (3, aI 0), (4, aI (G 223 (G (1000 + 32 * p) 7)))] rfl ?_
  exact sl_Pa_learn_75 P W p hp 0 (G 223 (G (1000 + 32 * p) 7)) G
theorem s_Pa_learn_s29 (P W : Int) (p : Int) (hp : 0 ≤ p) (X29 : Int × St → Option (Int × St)) (hX29 : ∀ s, So (MPa_learn P W) 29 [(0, aR (1000 + 32 * p)), (1, aR 103), (2, aR 140), (3, aI (s.1))] [] s.2 (X29 s)) (x3 : Int) (G : St) : SS (MPa_learn P W) (lk X29 some) 29 [(0, aR (1000 + 32 * p)), (1, aR 103), (2, aR 140), (3, aI x3)] [] G (Pa_learn_s29 P W p x3 G) := by
  refine r_iload_n 30 3 dX14_learn_29 rfl rfl rfl ?_
  refine r_aload_n 31 2 dX14_learn_30 rfl rfl rfl ?_
  refine r_get 34 (aI (G 140 6)) dX14_learn_31 fkX14_112 (fun _ => dsC_140 P W _) nn140 rfl rfl ?_
  refine r_icmp_ge 59 37 dX14_learn_34 rfl rfl ?_ ?_
  · refine SS.ex ?_
    refine r_to [0, 1, 2] [(0, aR (1000 + 32 * p)), (1, aR 103), (2, aR 140)] rfl ?_
    exact s_Pa_learn_b59 P W p hp G
  · refine r_aload_n 38 0 dX14_learn_37 rfl rfl rfl ?_
    refine r_get 41 (aR (1000 + 32 * p + 1)) dX14_learn_38 fkX14_15 (fun h => party_c P W hp h) (party_n hp) rfl rfl ?_
    refine r_iload_n 42 3 dX14_learn_41 rfl rfl rfl ?_
    refine r_aload_n 43 0 dX14_learn_42 rfl rfl rfl ?_
    refine r_get 46 (aR (1000 + 32 * p + 3)) dX14_learn_43 fkX14_21 (fun h => party_c P W hp h) (party_n hp) rfl rfl ?_
    refine r_iload_n 47 3 dX14_learn_46 rfl rfl rfl ?_
    refine r_callvI 50 (Mc := MBt_get P W) (o := 1000 + 32 * p + 3) (as := [aI x3]) (st := [aI x3, aR (1000 + 32 * p + 1)]) dX14_learn_47 rfl (c_Bt_get P W (1000 + 32 * p + 3) (isB_p3 hp) x3 G) lkX14_69 (cmBt_get P W) rfl rfl rfl (fun h => isB_c P W (isB_p3 hp) h) (isB_n (isB_p3 hp)) rfl (Nat.le_of_ble_eq_true rfl) (Nat.le_of_ble_eq_true rfl) (fun _ => rfl) rfl (fun z9 G10 => ?_)
    refine r_callvV 53 (Mc := MBt_set P W) (o := 1000 + 32 * p + 1) (as := [aI x3, aI z9]) (st := []) dX14_learn_50 rfl (c_Bt_set P W (1000 + 32 * p + 1) (isB_p1 hp) x3 z9 G10) lkX14_115 (cmBt_set P W) rfl rfl rfl (fun h => isB_c P W (isB_p1 hp) h) (isB_n (isB_p1 hp)) rfl (Nat.le_of_ble_eq_true rfl) (Nat.le_of_ble_eq_true rfl) (fun _ => rfl) rfl (fun z11 G12 => ?_)
    refine r_iinc 56 [(3, aI (x3 + 1)), (0, aR (1000 + 32 * p)), (1, aR 103), (2, aR 140)] 3 dX14_learn_53 rfl rfl rfl rfl ?_
    refine r_goto 29 dX14_learn_56 rfl ?_
    refine r_to [1, 2, 3, 0] [(0, aR (1000 + 32 * p)), (1, aR 103), (2, aR 140), (3, aI (x3 + 1))] rfl ?_
    exact SS.back (hX29 (x3 + 1, G12))
theorem sl_Pa_learn_29 (P W : Int) (p : Int) (hp : 0 ≤ p) (x3 : Int) (G : St) : SS (MPa_learn P W) some 29 [(0, aR (1000 + 32 * p)), (1, aR 103), (2, aR 140), (3, aI x3)] [] G (Pa_learn_l29 P W p x3 G) := by
  exact SS.loop (σ := Int × St) (fun s => [(0, aR (1000 + 32 * p)), (1, aR 103), (2, aR 140), (3, aI (s.1))]) (fun s => s.2) (fun s => Pa_learn_s29 P W p s.1 s.2) (fun X29 hX29 s => s_Pa_learn_s29 P W p hp   X29 hX29 s.1 s.2) (x3, G)
theorem s_Pa_learn (P W : Int) (p : Int) (hp : 0 ≤ p) (G : St) : SS (MPa_learn P W) some 0 [(0, aR (1000 + 32 * p)), (1, aR 103)] [] G (Pa_learn P W p G) := by
  refine r_aload_n 1 0 dX14_learn_0 rfl rfl rfl ?_
  refine r_get 4 (aR 220) dX14_learn_1 fkX14_38 (fun h => party_c P W hp h) (party_n hp) rfl rfl ?_
  refine r_get 7 (aR 140) dX14_learn_4 fkX14_58 (fun _ => dsC_220 P W _) nn220 rfl rfl ?_
  refine r_astore_n 8 [(2, aR 140), (0, aR (1000 + 32 * p)), (1, aR 103)] dX14_learn_7 rfl rfl rfl rfl ?_
  refine r_aload_n 9 1 dX14_learn_8 rfl rfl rfl ?_
  refine r_get 12 (aI (G (1000 + 32 * p) 7)) dX14_learn_9 fkX14_46 (fun h => party_c P W hp h) (party_n hp) rfl rfl ?_
  refine r_aload_n 13 0 dX14_learn_12 rfl rfl rfl ?_
  refine r_get 16 (aI (G 140 7)) dX14_learn_13 fkX14_64 (fun _ => dsC_140 P W _) nn140 rfl rfl ?_
  refine r_icmp_le 20 19 dX14_learn_16 rfl rfl ?_ ?_
  · refine r_aload_n 21 1 dX14_learn_20 rfl rfl rfl ?_
    refine r_get 24 (aI (G (1000 + 32 * p) 7)) dX14_learn_21 fkX14_46 (fun h => party_c P W hp h) (party_n hp) rfl rfl ?_
    refine r_if_ne 59 27 dX14_learn_24 rfl rfl ?_ ?_
    · refine r_to [1, 2, 0] [(0, aR (1000 + 32 * p)), (1, aR 103), (2, aR 140)] rfl ?_
      exact s_Pa_learn_b59 P W p hp G
    · refine r_iconst 28 0 dX14_learn_27 rfl rfl ?_
      refine r_istore_n 29 [(3, aI 0), (2, aR 140), (0, aR (1000 + 32 * p)), (1, aR 103)] dX14_learn_28 rfl rfl rfl rfl ?_
      refine r_to [2, 3, 1, 0] [(0, aR (1000 + 32 * p)), (1, aR 103), (2, aR 140), (3, aI 0)] rfl ?_
      exact sl_Pa_learn_29 P W p hp 0 G
  · exact r_return dX14_learn_19 rfl
theorem c_Pa_learn (P W : Int) (p : Int) (hp : 0 ≤ p) (G : St) : MG (MPa_learn P W) [aR (1000 + 32 * p), aR 103] G (Pa_learn P W p G) := MG.of plX14 (Nat.le_of_ble_eq_true rfl) (s_Pa_learn P W p hp G)
theorem s_Pa_goes (P W : Int) (p : Int) (hp : 0 ≤ p) (G : St) : SS (MPa_goes P W) some 0 [(0, aR (1000 + 32 * p)), (1, aR 103)] [] G (Pa_goes P W p G) := by
  refine r_iconst 1 1 dX14_goes_0 rfl rfl ?_
  refine r_aload_n 2 0 dX14_goes_1 rfl rfl rfl ?_
  refine r_get 5 (aR 220) dX14_goes_2 fkX14_38 (fun h => party_c P W hp h) (party_n hp) rfl rfl ?_
  refine r_get 8 (aI P) dX14_goes_5 fkX14_101 (fun _ => dsC_220 P W _) nn220 rfl rfl ?_
  refine r_ishl 9 dX14_goes_8 rfl ?_
  refine r_iconst 10 1 dX14_goes_9 rfl rfl ?_
  refine r_isub 11 dX14_goes_10 rfl ?_
  refine r_iconst 12 1 dX14_goes_11 rfl rfl ?_
  refine r_aload_n 13 0 dX14_goes_12 rfl rfl rfl ?_
  refine r_get 16 (aI p) dX14_goes_13 fkX14_42 (fun h => party_c P W hp h) (party_n hp) (party_num P W) rfl ?_
  refine r_ishl 17 dX14_goes_16 rfl ?_
  refine r_ixor 18 dX14_goes_17 rfl ?_
  refine r_istore_n 19 [(2, aI (j_xo ((j_sl 1 P) - 1) (j_sl 1 p))), (0, aR (1000 + 32 * p)), (1, aR 103)] dX14_goes_18 rfl rfl rfl rfl ?_
  refine ss_vlI (fun v1 => ?_)
  refine r_aload_n 20 1 dX14_goes_19 rfl rfl rfl ?_
  refine r_callvI 23 (Mc := MPa_isDone P W) (o := 1000 + 32 * p) (as := []) (st := []) dX14_goes_20 rfl (c_Pa_isDone P W p hp G) lkX14_104 (cmPa_isDone P W) rfl rfl rfl (fun h => party_c P W hp h) (party_n hp) rfl (Nat.le_of_ble_eq_true rfl) (Nat.le_of_ble_eq_true rfl) (fun _ => rfl) rfl (fun z2 G3 => ?_)
  refine r_if_ne 34 26 dX14_goes_23 rfl rfl ?_ ?_
  · refine r_iconst 35 0 dX14_goes_34 rfl rfl ?_
    exact r_zreturn dX14_goes_35 rfl
  · refine r_aload_n 27 1 dX14_goes_26 rfl rfl rfl ?_
    refine r_get 30 (aI (G3 (1000 + 32 * p) 9)) dX14_goes_27 fkX14_52 (fun h => party_c P W hp h) (party_n hp) rfl rfl ?_
    refine r_iload_n 31 0 dX14_goes_30 rfl rfl rfl ?_
    refine r_icmp_eq 36 34 dX14_goes_31 rfl rfl ?_ ?_
    · refine r_aload_n 37 1 dX14_goes_36 rfl rfl rfl ?_
      refine r_aload_n 38 2 dX14_goes_37 rfl rfl rfl ?_
      refine r_callvV 41 (Mc := MPa_learn P W) (o := 1000 + 32 * p) (as := [aR 103]) (st := []) dX14_goes_38 rfl (c_Pa_learn P W p hp G3) lkX14_108 (cmPa_learn P W) rfl rfl rfl (fun h => party_c P W hp h) (party_n hp) rfl (Nat.le_of_ble_eq_true rfl) (Nat.le_of_ble_eq_true rfl) (fun _ => rfl) rfl (fun z4 G5 => ?_)
      refine r_aload_n 42 1 dX14_goes_41 rfl rfl rfl ?_
      refine r_dup 43 dX14_goes_42 rfl rfl ?_
      refine r_get 46 (aI (G5 (1000 + 32 * p) 7)) dX14_goes_43 fkX14_46 (fun h => party_c P W hp h) (party_n hp) rfl rfl ?_
      refine r_iconst 47 1 dX14_goes_46 rfl rfl ?_
      refine r_iadd 48 dX14_goes_47 rfl ?_
      refine r_putI 51 dX14_goes_48 fkX14_46 (fun h => party_c P W hp h) (party_n hp) rfl rfl ?_
      refine ss_tk (fun G6 => ?_)
      refine r_aload_n 52 1 dX14_goes_51 rfl rfl rfl ?_
      refine r_aload_n 53 1 dX14_goes_52 rfl rfl rfl ?_
      refine r_get 56 (aI (G6 (1000 + 32 * p) 10)) dX14_goes_53 fkX14_55 (fun h => party_c P W hp h) (party_n hp) rfl rfl ?_
      refine r_putI 59 dX14_goes_56 fkX14_52 (fun h => party_c P W hp h) (party_n hp) rfl rfl ?_
      refine ss_tk (fun G7 => ?_)
      refine r_aload_n 60 1 dX14_goes_59 rfl rfl rfl ?_
      refine r_iconst 61 0 dX14_goes_60 rfl rfl ?_
      refine r_putI 64 dX14_goes_61 fkX14_55 (fun h => party_c P W hp h) (party_n hp) rfl rfl ?_
      refine ss_tk (fun G8 => ?_)
      refine r_iconst 65 1 dX14_goes_64 rfl rfl ?_
      exact r_zreturn dX14_goes_65 rfl
    · refine r_iconst 35 0 dX14_goes_34 rfl rfl ?_
      exact r_zreturn dX14_goes_35 rfl
theorem c_Pa_goes (P W : Int) (p : Int) (hp : 0 ≤ p) (G : St) : MG (MPa_goes P W) [aR (1000 + 32 * p), aR 103] G (Pa_goes P W p G) := MG.of plX14 (Nat.le_of_ble_eq_true rfl) (s_Pa_goes P W p hp G)
theorem s_Ar_copyOf (P W : Int) (x0 : Int) (x1 : Int) (G : St) : SS (MAr_copyOf P W) some 0 [(0, aR x0), (1, aI x1)] [] G (Ar_copyOf P W x0 x1 G) := by
  refine r_iload_n 1 1 dJ7_copyOf_0 rfl rfl rfl ?_
  refine r_aload_n 2 0 dJ7_copyOf_1 rfl rfl rfl ?_
  refine r_alens 3 dJ7_copyOf_2 (fun h h0 => ialC_c0 P W h h0) (fun h0 => ialC_n0 P W h0) rfl ?_
  refine r_icmp_ne 14 6 dJ7_copyOf_3 rfl rfl ?_ ?_
  · refine r_iload_n 15 1 dJ7_copyOf_14 rfl rfl rfl ?_
    refine r_newai 17 P W rfl dJ7_copyOf_15 rfl ?_
    refine ss_tk (fun G1 => ?_)
    refine r_astore_n 18 [(2, aR (x0 + 1)), (0, aR x0), (1, aI x1)] dJ7_copyOf_17 rfl rfl rfl rfl ?_
    refine r_aload_n 19 1 dJ7_copyOf_18 rfl rfl rfl ?_
    refine r_iconst 20 0 dJ7_copyOf_19 rfl rfl ?_
    refine r_aload_n 21 0 dJ7_copyOf_20 rfl rfl rfl ?_
    refine r_iconst 22 0 dJ7_copyOf_21 rfl rfl ?_
    refine r_aload_n 23 1 dJ7_copyOf_22 rfl rfl rfl ?_
    refine r_alens 24 dJ7_copyOf_23 (fun h h0 => ialC_c0 P W h h0) (fun h0 => ialC_n0 P W h0) rfl ?_
    refine r_iload_n 25 2 dJ7_copyOf_24 rfl rfl rfl ?_
    refine r_mmin 28 dJ7_copyOf_25 q1755 (Nat.le_of_ble_eq_true rfl) (Nat.le_of_ble_eq_true rfl) rfl rfl ?_
    refine r_acopy 31 0 dJ7_copyOf_28 q1756 (Or.inl rfl) (fun h h0 => ialC_c0 P W h h0) (fun h0 => ialC_n0 P W h0) (fun h h0 => ialC_c0 P W h h0) (fun h0 => ialC_n0 P W h0) (Nat.le_of_ble_eq_true rfl) (Nat.le_of_ble_eq_true rfl) rfl rfl ?_
    refine ss_tk (fun G2 => ?_)
    refine r_aload_n 32 0 dJ7_copyOf_31 rfl rfl rfl ?_
    exact r_areturn dJ7_copyOf_32 rfl
  · refine r_aload_n 7 0 dJ7_copyOf_6 rfl rfl rfl ?_
    exact SS.none'
theorem c_Ar_copyOf (P W : Int) (x0 : Int) (x1 : Int) (G : St) : MG (MAr_copyOf P W) [aR x0, aI x1] G (Ar_copyOf P W x0 x1 G) := MG.of plJ7 (Nat.le_of_ble_eq_true rfl) (s_Ar_copyOf P W x0 x1 G)
theorem s_Pa_take_b29 (P W : Int) (p : Int) (hp : 0 ≤ p) (x1 : Int) (x2 : Int) (G : St) : SS (MPa_take P W) some 29 [(0, aR (1000 + 32 * p)), (1, aI x1), (2, aI x2)] [] G (Pa_take_b29 P W p x1 x2 G) := by
  refine r_aload_n 30 0 dX14_take_29 rfl rfl rfl ?_
  refine r_get 33 (aR (G (1000 + 32 * p) 11)) dX14_take_30 fkX14_34 (fun h => party_c P W hp h) (party_n hp) rfl rfl ?_
  refine r_aload_n 34 0 dX14_take_33 rfl rfl rfl ?_
  refine r_get 37 (aI (G (1000 + 32 * p) 8)) dX14_take_34 fkX14_49 (fun h => party_c P W hp h) (party_n hp) rfl rfl ?_
  refine r_bipush 39 16 dX14_take_37 rfl rfl ?_
  refine r_iload_n 40 2 dX14_take_39 rfl rfl rfl ?_
  refine r_imul 41 dX14_take_40 rfl ?_
  refine r_iload_n 42 1 dX14_take_41 rfl rfl rfl ?_
  refine r_iadd 43 dX14_take_42 rfl ?_
  refine r_iast 44 dX14_take_43 (fun h h0 h1 => ialC_c P W h (Int.lt_of_le_of_lt h0 h1)) (fun h0 h1 => ialC_n P W (Int.lt_of_le_of_lt h0 h1)) rfl ?_
  refine ss_tk (fun G1 => ?_)
  refine r_aload_n 45 0 dX14_take_44 rfl rfl rfl ?_
  refine r_dup 46 dX14_take_45 rfl rfl ?_
  refine r_get 49 (aI (G1 (1000 + 32 * p) 8)) dX14_take_46 fkX14_49 (fun h => party_c P W hp h) (party_n hp) rfl rfl ?_
  refine r_iconst 50 1 dX14_take_49 rfl rfl ?_
  refine r_iadd 51 dX14_take_50 rfl ?_
  refine r_putI 54 dX14_take_51 fkX14_49 (fun h => party_c P W hp h) (party_n hp) rfl rfl ?_
  refine ss_tk (fun G2 => ?_)
  refine r_iload_n 55 2 dX14_take_54 rfl rfl rfl ?_
  refine r_aload_n 56 0 dX14_take_55 rfl rfl rfl ?_
  refine r_get 59 (aI (G2 (1000 + 32 * p) 7)) dX14_take_56 fkX14_46 (fun h => party_c P W hp h) (party_n hp) rfl rfl ?_
  refine r_icmp_ne 77 62 dX14_take_59 rfl rfl ?_ ?_
  · refine r_aload_n 78 0 dX14_take_77 rfl rfl rfl ?_
    refine r_dup 79 dX14_take_78 rfl rfl ?_
    refine r_get 82 (aI (G2 (1000 + 32 * p) 10)) dX14_take_79 fkX14_55 (fun h => party_c P W hp h) (party_n hp) rfl rfl ?_
    refine r_iconst 83 1 dX14_take_82 rfl rfl ?_
    refine r_iload_n 84 1 dX14_take_83 rfl rfl rfl ?_
    refine r_ishl 85 dX14_take_84 rfl ?_
    refine r_ior 86 dX14_take_85 rfl ?_
    refine r_putI 89 dX14_take_86 fkX14_55 (fun h => party_c P W hp h) (party_n hp) rfl rfl ?_
    refine ss_tk (fun G3 => ?_)
    exact r_return dX14_take_89 rfl
  · refine r_aload_n 63 0 dX14_take_62 rfl rfl rfl ?_
    refine r_dup 64 dX14_take_63 rfl rfl ?_
    refine r_get 67 (aI (G2 (1000 + 32 * p) 9)) dX14_take_64 fkX14_52 (fun h => party_c P W hp h) (party_n hp) rfl rfl ?_
    refine r_iconst 68 1 dX14_take_67 rfl rfl ?_
    refine r_iload_n 69 1 dX14_take_68 rfl rfl rfl ?_
    refine r_ishl 70 dX14_take_69 rfl ?_
    refine r_ior 71 dX14_take_70 rfl ?_
    refine r_putI 74 dX14_take_71 fkX14_52 (fun h => party_c P W hp h) (party_n hp) rfl rfl ?_
    refine ss_tk (fun G4 => ?_)
    refine r_goto 89 dX14_take_74 rfl ?_
    exact r_return dX14_take_89 rfl
theorem s_Pa_take (P W : Int) (p : Int) (hp : 0 ≤ p) (x1 : Int) (x2 : Int) (G : St) : SS (MPa_take P W) some 0 [(0, aR (1000 + 32 * p)), (1, aI x1), (2, aI x2)] [] G (Pa_take P W p x1 x2 G) := by
  refine r_aload_n 1 0 dX14_take_0 rfl rfl rfl ?_
  refine r_get 4 (aI (G (1000 + 32 * p) 8)) dX14_take_1 fkX14_49 (fun h => party_c P W hp h) (party_n hp) rfl rfl ?_
  refine r_aload_n 5 0 dX14_take_4 rfl rfl rfl ?_
  refine r_get 8 (aR (G (1000 + 32 * p) 11)) dX14_take_5 fkX14_34 (fun h => party_c P W hp h) (party_n hp) rfl rfl ?_
  refine r_alens 9 dX14_take_8 (fun h h0 => ialC_c0 P W h h0) (fun h0 => ialC_n0 P W h0) rfl ?_
  refine r_icmp_ne 29 12 dX14_take_9 rfl rfl ?_ ?_
  · exact s_Pa_take_b29 P W p hp x1 x2 G
  · refine r_aload_n 13 0 dX14_take_12 rfl rfl rfl ?_
    refine r_aload_n 14 0 dX14_take_13 rfl rfl rfl ?_
    refine r_get 17 (aR (G (1000 + 32 * p) 11)) dX14_take_14 fkX14_34 (fun h => party_c P W hp h) (party_n hp) rfl rfl ?_
    refine r_iconst 18 2 dX14_take_17 rfl rfl ?_
    refine r_aload_n 19 0 dX14_take_18 rfl rfl rfl ?_
    refine r_get 22 (aI (G (1000 + 32 * p) 8)) dX14_take_19 fkX14_49 (fun h => party_c P W hp h) (party_n hp) rfl rfl ?_
    refine r_imul 23 dX14_take_22 rfl ?_
    refine r_callsR 26 (Mc := MAr_copyOf P W) (as := [aR (G (1000 + 32 * p) 11), aI (2 * (G (1000 + 32 * p) 8))]) (st := [aR (1000 + 32 * p)]) dX14_take_23 rfl (c_Ar_copyOf P W (G (1000 + 32 * p) 11) (2 * (G (1000 + 32 * p) 8)) G) q1745 (cmAr_copyOf P W) rfl rfl rfl (Nat.le_of_ble_eq_true rfl) (Nat.le_of_ble_eq_true rfl) (fun _ => rfl) rfl (fun z5 G6 => ?_)
    refine r_putR 29 dX14_take_26 fkX14_34 (fun h => party_c P W hp h) (party_n hp) rfl rfl rfl ?_
    refine ss_tk (fun G7 => ?_)
    exact s_Pa_take_b29 P W p hp x1 x2 G7
theorem c_Pa_take (P W : Int) (p : Int) (hp : 0 ≤ p) (x1 : Int) (x2 : Int) (G : St) : MG (MPa_take P W) [aR (1000 + 32 * p), aI x1, aI x2] G (Pa_take P W p x1 x2 G) := MG.of plX14 (Nat.le_of_ble_eq_true rfl) (s_Pa_take P W p hp x1 x2 G)
theorem s_Ho_deliver_b172 (P W : Int) (p4 : Int) (hp4 : 0 ≤ p4) (X137 : Int × St → Option (Int × St)) (hX137 : ∀ s, So (MHo_deliver P W) 137 [(0, aR 100), (4, aR (1000 + 32 * p4)), (5, aI (s.1))] [] s.2 (X137 s)) (s0 : Int) (s1 : Int) (G : St) : SS (MHo_deliver P W) (lk X137 some) 172 [(0, aR 100), (4, aR (1000 + 32 * p4))] [aI s0, aI s1] G (Ho_deliver_b172 P W p4 s0 s1 G) := by
  refine r_iadd 173 dX1_deliver_172 rfl ?_
  refine r_istore 175 [(5, aI (s1 + s0)), (0, aR 100), (4, aR (1000 + 32 * p4))] dX1_deliver_173 rfl rfl rfl ?_
  refine r_goto 137 dX1_deliver_175 rfl ?_
  refine r_to [1, 2, 0] [(0, aR 100), (4, aR (1000 + 32 * p4)), (5, aI (s1 + s0))] rfl ?_
  exact SS.back (hX137 (s1 + s0, G))
theorem s_Ho_deliver_s137 (P W : Int) (p4 : Int) (hp4 : 0 ≤ p4) (X137 : Int × St → Option (Int × St)) (hX137 : ∀ s, So (MHo_deliver P W) 137 [(0, aR 100), (4, aR (1000 + 32 * p4)), (5, aI (s.1))] [] s.2 (X137 s)) (x5 : Int) (G : St) : SS (MHo_deliver P W) (lk X137 some) 137 [(0, aR 100), (4, aR (1000 + 32 * p4)), (5, aI x5)] [] G (Ho_deliver_s137 P W p4 x5 G) := by
  refine r_aload 139 1 dX1_deliver_137 rfl rfl ?_
  refine r_aload_n 140 0 dX1_deliver_139 rfl rfl rfl ?_
  refine r_get 143 (aR 103) dX1_deliver_140 fkX1_122 (fun _ => dsC_100 P W _) nn100 rfl rfl ?_
  refine r_callvI 146 (Mc := MPa_goes P W) (o := 1000 + 32 * p4) (as := [aR 103]) (st := []) dX1_deliver_143 rfl (c_Pa_goes P W p4 hp4 G) lkX1_312 (cmPa_goes P W) rfl rfl rfl (fun h => party_c P W hp4 h) (party_n hp4) rfl (Nat.le_of_ble_eq_true rfl) (Nat.le_of_ble_eq_true rfl) (fun _ => rfl) rfl (fun z6 G7 => ?_)
  refine r_if_eq 178 149 dX1_deliver_146 rfl rfl ?_ ?_
  · refine SS.ex ?_
    refine r_iload 180 2 dX1_deliver_178 rfl rfl ?_
    exact r_ireturn dX1_deliver_180 rfl
  · refine r_iload 151 2 dX1_deliver_149 rfl rfl ?_
    refine r_aload 153 1 dX1_deliver_151 rfl rfl ?_
    refine r_callvI 156 (Mc := MPa_isDone P W) (o := 1000 + 32 * p4) (as := []) (st := [aI x5]) dX1_deliver_153 rfl (c_Pa_isDone P W p4 hp4 G7) lkX1_188 (cmPa_isDone P W) rfl rfl rfl (fun h => party_c P W hp4 h) (party_n hp4) rfl (Nat.le_of_ble_eq_true rfl) (Nat.le_of_ble_eq_true rfl) (fun _ => rfl) rfl (fun z8 G9 => ?_)
    refine r_if_eq 163 159 dX1_deliver_156 rfl rfl ?_ ?_
    · refine r_aload_n 164 0 dX1_deliver_163 rfl rfl rfl ?_
      refine r_aload 166 1 dX1_deliver_164 rfl rfl ?_
      refine r_get 169 (aI p4) dX1_deliver_166 fkX1_316 (fun h => party_c P W hp4 h) (party_n hp4) (party_num P W) rfl ?_
      refine r_callvI 172 (Mc := MHo_send P W) (o := 100) (as := [aI p4]) (st := [aI x5]) dX1_deliver_169 rfl (c_Ho_send P W p4 G9) lkX1_296 (cmHo_send P W) rfl rfl rfl (fun _ => dsC_100 P W _) nn100 rfl (Nat.le_of_ble_eq_true rfl) (Nat.le_of_ble_eq_true rfl) (fun _ => rfl) rfl (fun z10 G11 => ?_)
      refine r_to [0, 1] [(0, aR 100), (4, aR (1000 + 32 * p4))] rfl ?_
      exact s_Ho_deliver_b172 P W p4 hp4 X137 hX137 z10 x5 G11
    · refine r_iconst 160 0 dX1_deliver_159 rfl rfl ?_
      refine r_goto 172 dX1_deliver_160 rfl ?_
      refine r_to [0, 1] [(0, aR 100), (4, aR (1000 + 32 * p4))] rfl ?_
      exact s_Ho_deliver_b172 P W p4 hp4 X137 hX137 0 x5 G9
theorem sl_Ho_deliver_137 (P W : Int) (p4 : Int) (x5 : Int) (hp4 : 0 ≤ p4) (G : St) : SS (MHo_deliver P W) some 137 [(0, aR 100), (4, aR (1000 + 32 * p4)), (5, aI x5)] [] G (Ho_deliver_l137 P W p4 x5 G) := by
  exact SS.loop (σ := Int × St) (fun s => [(0, aR 100), (4, aR (1000 + 32 * p4)), (5, aI (s.1))]) (fun s => s.2) (fun s => Ho_deliver_s137 P W p4 s.1 s.2) (fun X137 hX137 s => s_Ho_deliver_s137 P W p4 hp4 X137 hX137 s.1 s.2) (x5, G)
theorem s_Ho_deliver_s54 (P W : Int) (x2 : Int) (x3 : Int) (p4 : Int) (hp4 : 0 ≤ p4) (X54 : Int × St → Option (Int × St)) (hX54 : ∀ s, So (MHo_deliver P W) 54 [(0, aR 100), (2, aI x2), (3, aI x3), (4, aR (1000 + 32 * p4)), (5, aI (s.1))] [] s.2 (X54 s)) (x5 : Int) (G : St) : SS (MHo_deliver P W) (lk X54 some) 54 [(0, aR 100), (2, aI x2), (3, aI x3), (4, aR (1000 + 32 * p4)), (5, aI x5)] [] G (Ho_deliver_s54 P W x2 x3 p4 x5 G) := by
  refine r_iload 56 4 dX1_deliver_54 rfl rfl ?_
  refine r_aload_n 57 0 dX1_deliver_56 rfl rfl rfl ?_
  refine r_get 60 (aI (G 100 23)) dX1_deliver_57 fkX1_157 (fun _ => dsC_100 P W _) nn100 rfl rfl ?_
  refine r_icmp_ge 117 63 dX1_deliver_60 rfl rfl ?_ ?_
  · refine SS.ex ?_
    refine r_aload_n 118 0 dX1_deliver_117 rfl rfl rfl ?_
    refine r_dup 119 dX1_deliver_118 rfl rfl ?_
    refine r_get 122 (aI (G 100 24)) dX1_deliver_119 fkX1_160 (fun _ => dsC_100 P W _) nn100 rfl rfl ?_
    refine r_iconst 123 1 dX1_deliver_122 rfl rfl ?_
    refine r_iadd 124 dX1_deliver_123 rfl ?_
    refine r_putI 127 dX1_deliver_124 fkX1_160 (fun _ => dsC_100 P W _) nn100 rfl rfl ?_
    refine ss_tk (fun G3 => ?_)
    refine r_aload 129 3 dX1_deliver_127 rfl rfl ?_
    refine r_iload_n 130 1 dX1_deliver_129 rfl rfl rfl ?_
    refine r_iload_n 131 2 dX1_deliver_130 rfl rfl rfl ?_
    refine r_callvV 134 (Mc := MPa_take P W) (o := 1000 + 32 * p4) (as := [aI x2, aI x3]) (st := []) dX1_deliver_131 rfl (c_Pa_take P W p4 hp4 x2 x3 G3) lkX1_309 (cmPa_take P W) rfl rfl rfl (fun h => party_c P W hp4 h) (party_n hp4) rfl (Nat.le_of_ble_eq_true rfl) (Nat.le_of_ble_eq_true rfl) (fun _ => rfl) rfl (fun z4 G5 => ?_)
    refine r_iconst 135 0 dX1_deliver_134 rfl rfl ?_
    refine r_istore 137 [(5, aI 0), (0, aR 100), (2, aI x2), (3, aI x3), (4, aR (1000 + 32 * p4))] dX1_deliver_135 rfl rfl rfl ?_
    refine r_to [1, 4, 0] [(0, aR 100), (4, aR (1000 + 32 * p4)), (5, aI 0)] rfl ?_
    exact sl_Ho_deliver_137 P W p4 0 hp4 G5
  · refine r_aload_n 64 0 dX1_deliver_63 rfl rfl rfl ?_
    refine r_get 67 (aR 170) dX1_deliver_64 fkX1_129 (fun _ => dsC_100 P W _) nn100 rfl rfl ?_
    refine r_iload 69 4 dX1_deliver_67 rfl rfl ?_
    refine r_aload_n 70 0 dX1_deliver_69 rfl rfl rfl ?_
    refine r_get 73 (aR 170) dX1_deliver_70 fkX1_129 (fun _ => dsC_100 P W _) nn100 rfl rfl ?_
    refine r_iload 75 4 dX1_deliver_73 rfl rfl ?_
    refine r_iconst 76 1 dX1_deliver_75 rfl rfl ?_
    refine r_iadd 77 dX1_deliver_76 rfl ?_
    refine r_iald 78 dX1_deliver_77 (fun _ _ _ => dsC_170 P W _) (fun _ _ => nn170) rfl ?_
    refine r_iast 79 dX1_deliver_78 (fun _ _ _ => dsC_170 P W _) (fun _ _ => nn170) rfl ?_
    refine ss_tk (fun G12 => ?_)
    refine r_aload_n 80 0 dX1_deliver_79 rfl rfl rfl ?_
    refine r_get 83 (aR 171) dX1_deliver_80 fkX1_132 (fun _ => dsC_100 P W _) nn100 rfl rfl ?_
    refine r_iload 85 4 dX1_deliver_83 rfl rfl ?_
    refine r_aload_n 86 0 dX1_deliver_85 rfl rfl rfl ?_
    refine r_get 89 (aR 171) dX1_deliver_86 fkX1_132 (fun _ => dsC_100 P W _) nn100 rfl rfl ?_
    refine r_iload 91 4 dX1_deliver_89 rfl rfl ?_
    refine r_iconst 92 1 dX1_deliver_91 rfl rfl ?_
    refine r_iadd 93 dX1_deliver_92 rfl ?_
    refine r_iald 94 dX1_deliver_93 (fun _ _ _ => dsC_171 P W _) (fun _ _ => nn171) rfl ?_
    refine r_iast 95 dX1_deliver_94 (fun _ _ _ => dsC_171 P W _) (fun _ _ => nn171) rfl ?_
    refine ss_tk (fun G13 => ?_)
    refine r_aload_n 96 0 dX1_deliver_95 rfl rfl rfl ?_
    refine r_get 99 (aR 172) dX1_deliver_96 fkX1_135 (fun _ => dsC_100 P W _) nn100 rfl rfl ?_
    refine r_iload 101 4 dX1_deliver_99 rfl rfl ?_
    refine r_aload_n 102 0 dX1_deliver_101 rfl rfl rfl ?_
    refine r_get 105 (aR 172) dX1_deliver_102 fkX1_135 (fun _ => dsC_100 P W _) nn100 rfl rfl ?_
    refine r_iload 107 4 dX1_deliver_105 rfl rfl ?_
    refine r_iconst 108 1 dX1_deliver_107 rfl rfl ?_
    refine r_iadd 109 dX1_deliver_108 rfl ?_
    refine r_iald 110 dX1_deliver_109 (fun _ _ _ => dsC_172 P W _) (fun _ _ => nn172) rfl ?_
    refine r_iast 111 dX1_deliver_110 (fun _ _ _ => dsC_172 P W _) (fun _ _ => nn172) rfl ?_
    refine ss_tk (fun G14 => ?_)
    refine r_iinc 114 [(5, aI (x5 + 1)), (0, aR 100), (2, aI x2), (3, aI x3), (4, aR (1000 + 32 * p4))] 4 dX1_deliver_111 rfl rfl rfl rfl ?_
    refine r_goto 54 dX1_deliver_114 rfl ?_
    refine r_to [1, 2, 3, 4, 0] [(0, aR 100), (2, aI x2), (3, aI x3), (4, aR (1000 + 32 * p4)), (5, aI (x5 + 1))] rfl ?_
    exact SS.back (hX54 (x5 + 1, G14))
theorem sl_Ho_deliver_54 (P W : Int) (x2 : Int) (x3 : Int) (p4 : Int) (x5 : Int) (hp4 : 0 ≤ p4) (G : St) : SS (MHo_deliver P W) some 54 [(0, aR 100), (2, aI x2), (3, aI x3), (4, aR (1000 + 32 * p4)), (5, aI x5)] [] G (Ho_deliver_l54 P W x2 x3 p4 x5 G) := by
  exact SS.loop (σ := Int × St) (fun s => [(0, aR 100), (2, aI x2), (3, aI x3), (4, aR (1000 + 32 * p4)), (5, aI (s.1))]) (fun s => s.2) (fun s => Ho_deliver_s54 P W x2 x3 p4 s.1 s.2) (fun X54 hX54 s => s_Ho_deliver_s54 P W x2 x3 p4 hp4 X54 hX54 s.1 s.2) (x5, G)
theorem s_Ho_deliver (P W : Int) (x1 : Int) (G : St) : SS (MHo_deliver P W) some 0 [(0, aR 100), (1, aI x1)] [] G (Ho_deliver P W x1 G) := by
  refine r_iload_n 1 1 dX1_deliver_0 rfl rfl rfl ?_
  refine r_if_lt 12 4 dX1_deliver_1 rfl rfl ?_ ?_
  · refine r_iconst 13 (-1) dX1_deliver_12 rfl rfl ?_
    exact r_ireturn dX1_deliver_13 rfl
  · refine r_iload_n 5 1 dX1_deliver_4 rfl rfl rfl ?_
    refine r_aload_n 6 0 dX1_deliver_5 rfl rfl rfl ?_
    refine r_get 9 (aI (G 100 23)) dX1_deliver_6 fkX1_157 (fun _ => dsC_100 P W _) nn100 rfl rfl ?_
    refine r_icmp_lt 14 12 dX1_deliver_9 rfl rfl ?_ ?_
    · refine r_aload_n 15 0 dX1_deliver_14 rfl rfl rfl ?_
      refine r_get 18 (aR 170) dX1_deliver_15 fkX1_129 (fun _ => dsC_100 P W _) nn100 rfl rfl ?_
      refine r_iload_n 19 1 dX1_deliver_18 rfl rfl rfl ?_
      refine r_iald 20 dX1_deliver_19 (fun _ _ _ => dsC_170 P W _) (fun _ _ => nn170) rfl ?_
      refine r_istore_n 21 [(2, aI (G 170 x1)), (0, aR 100), (1, aI x1)] dX1_deliver_20 rfl rfl rfl rfl ?_
      refine r_aload_n 22 1 dX1_deliver_21 rfl rfl rfl ?_
      refine r_get 25 (aR 172) dX1_deliver_22 fkX1_135 (fun _ => dsC_100 P W _) nn100 rfl rfl ?_
      refine r_iload_n 26 2 dX1_deliver_25 rfl rfl rfl ?_
      refine r_iald 27 dX1_deliver_26 (fun _ _ _ => dsC_172 P W _) (fun _ _ => nn172) rfl ?_
      refine r_istore_n 28 [(3, aI (G 172 x1)), (2, aI (G 170 x1)), (0, aR 100), (1, aI x1)] dX1_deliver_27 rfl rfl rfl rfl ?_
      refine r_aload_n 29 2 dX1_deliver_28 rfl rfl rfl ?_
      refine r_get 32 (aR 103) dX1_deliver_29 fkX1_122 (fun _ => dsC_100 P W _) nn100 rfl rfl ?_
      refine r_aload_n 33 2 dX1_deliver_32 rfl rfl rfl ?_
      refine r_get 36 (aR 171) dX1_deliver_33 fkX1_132 (fun _ => dsC_100 P W _) nn100 rfl rfl ?_
      refine r_iload_n 37 3 dX1_deliver_36 rfl rfl rfl ?_
      refine r_iald 38 dX1_deliver_37 (fun _ _ _ => dsC_171 P W _) (fun _ _ => nn171) rfl ?_
      refine r_aald8q 39 dX1_deliver_38 (fun _ _ _ => dsC_103 P W _) (fun _ _ => nn103) rfl (fun p1 hp1 => ?_)
      refine r_astore 41 [(4, aR (1000 + 32 * p1)), (3, aI (G 172 x1)), (2, aI (G 170 x1)), (0, aR 100), (1, aI x1)] dX1_deliver_39 rfl rfl rfl ?_
      refine r_aload_n 42 3 dX1_deliver_41 rfl rfl rfl ?_
      refine r_dup 43 dX1_deliver_42 rfl rfl ?_
      refine r_get 46 (aI (G 100 23)) dX1_deliver_43 fkX1_157 (fun _ => dsC_100 P W _) nn100 rfl rfl ?_
      refine r_iconst 47 1 dX1_deliver_46 rfl rfl ?_
      refine r_isub 48 dX1_deliver_47 rfl ?_
      refine r_putI 51 dX1_deliver_48 fkX1_157 (fun _ => dsC_100 P W _) nn100 rfl rfl ?_
      refine ss_tk (fun G2 => ?_)
      refine r_iload_n 52 4 dX1_deliver_51 rfl rfl rfl ?_
      refine r_istore 54 [(5, aI x1), (4, aR (1000 + 32 * p1)), (3, aI (G 172 x1)), (2, aI (G 170 x1)), (0, aR 100), (1, aI x1)] dX1_deliver_52 rfl rfl rfl ?_
      refine r_to [4, 3, 2, 1, 0] [(0, aR 100), (2, aI (G 170 x1)), (3, aI (G 172 x1)), (4, aR (1000 + 32 * p1)), (5, aI x1)] rfl ?_
      exact sl_Ho_deliver_54 P W (G 170 x1) (G 172 x1) p1 x1 hp1 G2
    · refine r_iconst 13 (-1) dX1_deliver_12 rfl rfl ?_
      exact r_ireturn dX1_deliver_13 rfl
theorem c_Ho_deliver (P W : Int) (x1 : Int) (G : St) : MG (MHo_deliver P W) [aR 100, aI x1] G (Ho_deliver P W x1 G) := MG.of plX1 (Nat.le_of_ble_eq_true rfl) (s_Ho_deliver P W x1 G)
theorem s_Ho_rush_b49 (P W : Int) (x3 : Int) (G : St) : SS (MHo_rush P W) some 49 [(3, aI x3)] [] G (Ho_rush_b49 P W x3 G) := by
  refine r_iload_n 50 0 dX1_rush_49 rfl rfl rfl ?_
  exact r_ireturn dX1_rush_50 rfl
theorem s_Ho_rush_s19 (P W : Int) (x1 : Int) (x2 : Int) (X19 : Int × St → Option (Int × St)) (hX19 : ∀ s, So (MHo_rush P W) 19 [(0, aR 100), (1, aI x1), (2, aI x2), (3, aI (s.1))] [] s.2 (X19 s)) (x3 : Int) (G : St) : SS (MHo_rush P W) (lk X19 some) 19 [(0, aR 100), (1, aI x1), (2, aI x2), (3, aI x3)] [] G (Ho_rush_s19 P W x1 x2 x3 G) := by
  refine r_iload_n 20 3 dX1_rush_19 rfl rfl rfl ?_
  refine r_iload_n 21 1 dX1_rush_20 rfl rfl rfl ?_
  refine r_icmp_ge 49 24 dX1_rush_21 rfl rfl ?_ ?_
  · refine SS.ex ?_
    refine r_to [3] [(3, aI x3)] rfl ?_
    exact s_Ho_rush_b49 P W x3 G
  · refine r_aload_n 25 0 dX1_rush_24 rfl rfl rfl ?_
    refine r_get 28 (aI (G 100 23)) dX1_rush_25 fkX1_157 (fun _ => dsC_100 P W _) nn100 rfl rfl ?_
    refine r_if_le 49 31 dX1_rush_28 rfl rfl ?_ ?_
    · refine SS.ex ?_
      refine r_to [3] [(3, aI x3)] rfl ?_
      exact s_Ho_rush_b49 P W x3 G
    · refine r_aload_n 32 0 dX1_rush_31 rfl rfl rfl ?_
      refine r_iload_n 33 2 dX1_rush_32 rfl rfl rfl ?_
      refine r_aload_n 34 0 dX1_rush_33 rfl rfl rfl ?_
      refine r_get 37 (aI (G 100 23)) dX1_rush_34 fkX1_157 (fun _ => dsC_100 P W _) nn100 rfl rfl ?_
      refine r_irem 38 dX1_rush_37 rfl ?_
      refine r_callvI 41 (Mc := MHo_deliver P W) (o := 100) (as := [aI (x2 % (G 100 23))]) (st := []) dX1_rush_38 rfl (c_Ho_deliver P W (x2 % (G 100 23)) G) lkX1_320 (cmHo_deliver P W) rfl rfl rfl (fun _ => dsC_100 P W _) nn100 rfl (Nat.le_of_ble_eq_true rfl) (Nat.le_of_ble_eq_true rfl) (fun _ => rfl) rfl (fun z1 G2 => ?_)
      refine r_istore 43 [(4, aI z1), (0, aR 100), (1, aI x1), (2, aI x2), (3, aI x3)] dX1_rush_41 rfl rfl rfl ?_
      refine r_iinc 46 [(3, aI (x3 + 1)), (4, aI z1), (0, aR 100), (1, aI x1), (2, aI x2)] 4 dX1_rush_43 rfl rfl rfl rfl ?_
      refine r_goto 19 dX1_rush_46 rfl ?_
      refine r_to [2, 3, 4, 0] [(0, aR 100), (1, aI x1), (2, aI x2), (3, aI (x3 + 1))] rfl ?_
      exact SS.back (hX19 (x3 + 1, G2))
theorem sl_Ho_rush_19 (P W : Int) (x1 : Int) (x2 : Int) (x3 : Int) (G : St) : SS (MHo_rush P W) some 19 [(0, aR 100), (1, aI x1), (2, aI x2), (3, aI x3)] [] G (Ho_rush_l19 P W x1 x2 x3 G) := by
  exact SS.loop (σ := Int × St) (fun s => [(0, aR 100), (1, aI x1), (2, aI x2), (3, aI (s.1))]) (fun s => s.2) (fun s => Ho_rush_s19 P W x1 x2 s.1 s.2) (fun X19 hX19 s => s_Ho_rush_s19 P W x1 x2  X19 hX19 s.1 s.2) (x3, G)
theorem s_Ho_rush (P W : Int) (x1 : Int) (x2 : Int) (G : St) : SS (MHo_rush P W) some 0 [(0, aR 100), (1, aI x1), (2, aI x2)] [] G (Ho_rush P W x1 x2 G) := by
  refine r_iload_n 1 1 dX1_rush_0 rfl rfl rfl ?_
  refine r_if_lt 15 4 dX1_rush_1 rfl rfl ?_ ?_
  · refine r_iconst 16 (-1) dX1_rush_15 rfl rfl ?_
    exact r_ireturn dX1_rush_16 rfl
  · refine r_iload_n 5 1 dX1_rush_4 rfl rfl rfl ?_
    refine r_ldcw 8 100000 dX1_rush_5 q1776 (by decide) rfl rfl ?_
    refine r_icmp_gt 15 11 dX1_rush_8 rfl rfl ?_ ?_
    · refine r_iconst 16 (-1) dX1_rush_15 rfl rfl ?_
      exact r_ireturn dX1_rush_16 rfl
    · refine r_iload_n 12 2 dX1_rush_11 rfl rfl rfl ?_
      refine r_if_ge 17 15 dX1_rush_12 rfl rfl ?_ ?_
      · refine r_iconst 18 0 dX1_rush_17 rfl rfl ?_
        refine r_istore_n 19 [(3, aI 0), (0, aR 100), (1, aI x1), (2, aI x2)] dX1_rush_18 rfl rfl rfl rfl ?_
        refine r_to [1, 2, 3, 0] [(0, aR 100), (1, aI x1), (2, aI x2), (3, aI 0)] rfl ?_
        exact sl_Ho_rush_19 P W x1 x2 0 G
      · refine r_iconst 16 (-1) dX1_rush_15 rfl rfl ?_
        exact r_ireturn dX1_rush_16 rfl
theorem c_Ho_rush (P W : Int) (x1 : Int) (x2 : Int) (G : St) : MG (MHo_rush P W) [aR 100, aI x1, aI x2] G (Ho_rush P W x1 x2 G) := MG.of plX1 (Nat.le_of_ble_eq_true rfl) (s_Ho_rush P W x1 x2 G)
theorem s_Ho_isParty (P W : Int) (x1 : Int) (G : St) : SS (MHo_isParty P W) some 0 [(0, aR 100), (1, aI x1)] [] G (Ho_isParty P W x1 G) := by
  refine r_aload_n 1 0 dX1_isParty_0 rfl rfl rfl ?_
  refine r_get 4 (aI (G 100 19)) dX1_isParty_1 fkX1_154 (fun _ => dsC_100 P W _) nn100 rfl rfl ?_
  refine SS.phi (fun VV_ => ckB VV_ 2 (some (VV_, G))) ?_
  refine r_if_eq 23 7 dX1_isParty_4 rfl rfl ?_ ?_
  · refine r_iconst 24 0 dX1_isParty_23 rfl rfl ?_
    exact r_zreturn dX1_isParty_24 rfl
  · refine r_iload_n 8 1 dX1_isParty_7 rfl rfl rfl ?_
    refine SS.phi (fun VV_ => ckB VV_ 2 (some (VV_, G))) ?_
    refine r_if_lt 23 11 dX1_isParty_8 rfl rfl ?_ ?_
    · refine r_iconst 24 0 dX1_isParty_23 rfl rfl ?_
      exact r_zreturn dX1_isParty_24 rfl
    · refine r_iload_n 12 1 dX1_isParty_11 rfl rfl rfl ?_
      refine r_aload_n 13 0 dX1_isParty_12 rfl rfl rfl ?_
      refine r_get 16 (aI P) dX1_isParty_13 fkX1_77 (fun _ => dsC_100 P W _) nn100 rfl rfl ?_
      refine SS.phi (fun VV_ => ckB VV_ 2 (some (VV_, G))) ?_
      refine r_icmp_ge 23 19 dX1_isParty_16 rfl rfl ?_ ?_
      · refine r_iconst 24 0 dX1_isParty_23 rfl rfl ?_
        exact r_zreturn dX1_isParty_24 rfl
      · refine r_iconst 20 1 dX1_isParty_19 rfl rfl ?_
        refine r_goto 24 dX1_isParty_20 rfl ?_
        exact r_zreturn dX1_isParty_24 rfl
theorem c_Ho_isParty (P W : Int) (x1 : Int) (G : St) : MG (MHo_isParty P W) [aR 100, aI x1] G (Ho_isParty P W x1 G) := MG.of plX1 (Nat.le_of_ble_eq_true rfl) (s_Ho_isParty P W x1 G)
theorem s_Pa_ownBits (P W : Int) (p : Int) (hp : 0 ≤ p) (G : St) : SS (MPa_ownBits P W) some 0 [(0, aR (1000 + 32 * p))] [] G (Pa_ownBits P W p G) := by
  refine r_aload_n 1 0 dX14_ownBits_0 rfl rfl rfl ?_
  refine r_get 4 (aR 220) dX14_ownBits_1 fkX14_38 (fun h => party_c P W hp h) (party_n hp) rfl rfl ?_
  refine r_aload_n 5 0 dX14_ownBits_4 rfl rfl rfl ?_
  refine r_get 8 (aI p) dX14_ownBits_5 fkX14_42 (fun h => party_c P W hp h) (party_n hp) (party_num P W) rfl ?_
  refine r_callvI 11 (Mc := MPl_owned P W) (o := 220) (as := [aI p]) (st := []) dX14_ownBits_8 rfl (c_Pl_owned P W p G) lkX14_136 (cmPl_owned P W) rfl rfl rfl (fun _ => dsC_220 P W _) nn220 rfl (Nat.le_of_ble_eq_true rfl) (Nat.le_of_ble_eq_true rfl) (fun _ => rfl) rfl (fun z1 G2 => ?_)
  refine r_aload_n 12 0 dX14_ownBits_11 rfl rfl rfl ?_
  refine r_get 15 (aR 220) dX14_ownBits_12 fkX14_38 (fun h => party_c P W hp h) (party_n hp) rfl rfl ?_
  refine r_get 18 (aI P) dX14_ownBits_15 fkX14_101 (fun _ => dsC_220 P W _) nn220 rfl rfl ?_
  refine r_imul 19 dX14_ownBits_18 rfl ?_
  exact r_ireturn dX14_ownBits_19 rfl
theorem c_Pa_ownBits (P W : Int) (p : Int) (hp : 0 ≤ p) (G : St) : MG (MPa_ownBits P W) [aR (1000 + 32 * p)] G (Pa_ownBits P W p G) := MG.of plX14 (Nat.le_of_ble_eq_true rfl) (s_Pa_ownBits P W p hp G)
theorem s_Pa_viewSize_s20 (P W : Int) (p : Int) (hp : 0 ≤ p) (X20 : Int × Int × St → Option (Int × St)) (hX20 : ∀ s, So (MPa_viewSize P W) 20 [(0, aR (1000 + 32 * p)), (1, aI (s.1)), (2, aI (s.2.1))] [] s.2.2 (X20 s)) (x1 : Int) (x2 : Int) (G : St) : SS (MPa_viewSize P W) (lk X20 some) 20 [(0, aR (1000 + 32 * p)), (1, aI x1), (2, aI x2)] [] G (Pa_viewSize_s20 P W p x1 x2 G) := by
  refine r_iload_n 21 2 dX14_viewSize_20 rfl rfl rfl ?_
  refine r_aload_n 22 0 dX14_viewSize_21 rfl rfl rfl ?_
  refine r_get 25 (aI (G (1000 + 32 * p) 8)) dX14_viewSize_22 fkX14_49 (fun h => party_c P W hp h) (party_n hp) rfl rfl ?_
  refine r_icmp_ge 62 28 dX14_viewSize_25 rfl rfl ?_ ?_
  · refine SS.ex ?_
    refine r_iload_n 63 1 dX14_viewSize_62 rfl rfl rfl ?_
    exact r_ireturn dX14_viewSize_63 rfl
  · refine r_iload_n 29 1 dX14_viewSize_28 rfl rfl rfl ?_
    refine r_aload_n 30 0 dX14_viewSize_29 rfl rfl rfl ?_
    refine r_get 33 (aR 220) dX14_viewSize_30 fkX14_38 (fun h => party_c P W hp h) (party_n hp) rfl rfl ?_
    refine r_aload_n 34 0 dX14_viewSize_33 rfl rfl rfl ?_
    refine r_get 37 (aR (G (1000 + 32 * p) 11)) dX14_viewSize_34 fkX14_34 (fun h => party_c P W hp h) (party_n hp) rfl rfl ?_
    refine r_iload_n 38 2 dX14_viewSize_37 rfl rfl rfl ?_
    refine r_iald 39 dX14_viewSize_38 (fun h h0 h1 => ialC_c P W h (Int.lt_of_le_of_lt h0 h1)) (fun h0 h1 => ialC_n P W (Int.lt_of_le_of_lt h0 h1)) rfl ?_
    refine r_bipush 41 16 dX14_viewSize_39 rfl rfl ?_
    refine r_irem 42 dX14_viewSize_41 rfl ?_
    refine r_aload_n 43 0 dX14_viewSize_42 rfl rfl rfl ?_
    refine r_get 46 (aR (G (1000 + 32 * p) 11)) dX14_viewSize_43 fkX14_34 (fun h => party_c P W hp h) (party_n hp) rfl rfl ?_
    refine r_iload_n 47 2 dX14_viewSize_46 rfl rfl rfl ?_
    refine r_iald 48 dX14_viewSize_47 (fun h h0 h1 => ialC_c P W h (Int.lt_of_le_of_lt h0 h1)) (fun h0 h1 => ialC_n P W (Int.lt_of_le_of_lt h0 h1)) rfl ?_
    refine r_bipush 50 16 dX14_viewSize_48 rfl rfl ?_
    refine r_idiv 51 dX14_viewSize_50 rfl ?_
    refine r_callvI 54 (Mc := MPl_length P W) (o := 220) (as := [aI ((G (G (1000 + 32 * p) 11) x2) % 16), aI ((G (G (1000 + 32 * p) 11) x2) / 16)]) (st := [aI x1]) dX14_viewSize_51 rfl (c_Pl_length P W ((G (G (1000 + 32 * p) 11) x2) % 16) ((G (G (1000 + 32 * p) 11) x2) / 16) G) lkX14_146 (cmPl_length P W) rfl rfl rfl (fun _ => dsC_220 P W _) nn220 rfl (Nat.le_of_ble_eq_true rfl) (Nat.le_of_ble_eq_true rfl) (fun _ => rfl) rfl (fun z3 G4 => ?_)
    refine r_iadd 55 dX14_viewSize_54 rfl ?_
    refine r_istore_n 56 [(1, aI (x1 + z3)), (0, aR (1000 + 32 * p)), (2, aI x2)] dX14_viewSize_55 rfl rfl rfl rfl ?_
    refine r_iinc 59 [(2, aI (x2 + 1)), (1, aI (x1 + z3)), (0, aR (1000 + 32 * p))] 2 dX14_viewSize_56 rfl rfl rfl rfl ?_
    refine r_goto 20 dX14_viewSize_59 rfl ?_
    refine r_to [2, 1, 0] [(0, aR (1000 + 32 * p)), (1, aI (x1 + z3)), (2, aI (x2 + 1))] rfl ?_
    exact SS.back (hX20 (x1 + z3, x2 + 1, G4))
theorem sl_Pa_viewSize_20 (P W : Int) (p : Int) (hp : 0 ≤ p) (x1 : Int) (x2 : Int) (G : St) : SS (MPa_viewSize P W) some 20 [(0, aR (1000 + 32 * p)), (1, aI x1), (2, aI x2)] [] G (Pa_viewSize_l20 P W p x1 x2 G) := by
  exact SS.loop (σ := Int × Int × St) (fun s => [(0, aR (1000 + 32 * p)), (1, aI (s.1)), (2, aI (s.2.1))]) (fun s => s.2.2) (fun s => Pa_viewSize_s20 P W p s.1 s.2.1 s.2.2) (fun X20 hX20 s => s_Pa_viewSize_s20 P W p hp   X20 hX20 s.1 s.2.1 s.2.2) (x1, x2, G)
theorem s_Pa_viewSize (P W : Int) (p : Int) (hp : 0 ≤ p) (G : St) : SS (MPa_viewSize P W) some 0 [(0, aR (1000 + 32 * p))] [] G (Pa_viewSize P W p G) := by
  refine r_aload_n 1 0 dX14_viewSize_0 rfl rfl rfl ?_
  refine r_callvI 4 (Mc := MPa_ownBits P W) (o := 1000 + 32 * p) (as := []) (st := []) dX14_viewSize_1 rfl (c_Pa_ownBits P W p hp G) lkX14_139 (cmPa_ownBits P W) rfl rfl rfl (fun h => party_c P W hp h) (party_n hp) rfl (Nat.le_of_ble_eq_true rfl) (Nat.le_of_ble_eq_true rfl) (fun _ => rfl) rfl (fun z1 G2 => ?_)
  refine r_iconst 5 3 dX14_viewSize_4 rfl rfl ?_
  refine r_aload_n 6 0 dX14_viewSize_5 rfl rfl rfl ?_
  refine r_get 9 (aR 220) dX14_viewSize_6 fkX14_38 (fun h => party_c P W hp h) (party_n hp) rfl rfl ?_
  refine r_get 12 (aR 140) dX14_viewSize_9 fkX14_58 (fun _ => dsC_220 P W _) nn220 rfl rfl ?_
  refine r_get 15 (aI (G2 140 5)) dX14_viewSize_12 fkX14_143 (fun _ => dsC_140 P W _) nn140 rfl rfl ?_
  refine r_imul 16 dX14_viewSize_15 rfl ?_
  refine r_iadd 17 dX14_viewSize_16 rfl ?_
  refine r_istore_n 18 [(1, aI (z1 + (3 * (G2 140 5)))), (0, aR (1000 + 32 * p))] dX14_viewSize_17 rfl rfl rfl rfl ?_
  refine r_iconst 19 0 dX14_viewSize_18 rfl rfl ?_
  refine r_istore_n 20 [(2, aI 0), (1, aI (z1 + (3 * (G2 140 5)))), (0, aR (1000 + 32 * p))] dX14_viewSize_19 rfl rfl rfl rfl ?_
  refine r_to [2, 1, 0] [(0, aR (1000 + 32 * p)), (1, aI (z1 + (3 * (G2 140 5)))), (2, aI 0)] rfl ?_
  exact sl_Pa_viewSize_20 P W p hp (z1 + (3 * (G2 140 5))) 0 G2
theorem c_Pa_viewSize (P W : Int) (p : Int) (hp : 0 ≤ p) (G : St) : MG (MPa_viewSize P W) [aR (1000 + 32 * p)] G (Pa_viewSize P W p G) := MG.of plX14 (Nat.le_of_ble_eq_true rfl) (s_Pa_viewSize P W p hp G)
theorem s_Ho_party (P W : Int) (x1 : Int) (x2 : Int) (G : St) : SS (MHo_party P W) some 0 [(0, aR 100), (1, aI x1), (2, aI x2)] [] G (Ho_party P W x1 x2 G) := by
  refine r_aload_n 1 0 dX1_party_0 rfl rfl rfl ?_
  refine r_iload_n 2 1 dX1_party_1 rfl rfl rfl ?_
  refine r_callvI 5 (Mc := MHo_isParty P W) (o := 100) (as := [aI x1]) (st := []) dX1_party_2 rfl (c_Ho_isParty P W x1 G) lkX1_323 (cmHo_isParty P W) rfl rfl rfl (fun _ => dsC_100 P W _) nn100 rfl (Nat.le_of_ble_eq_true rfl) (Nat.le_of_ble_eq_true rfl) (fun _ => rfl) rfl (fun z1 G2 => ?_)
  refine r_if_ne 10 8 dX1_party_5 rfl rfl ?_ ?_
  · refine r_iload_n 11 2 dX1_party_10 rfl rfl rfl ?_
    refine r_if_ne 26 14 dX1_party_11 rfl rfl ?_ ?_
    · refine r_iload_n 27 2 dX1_party_26 rfl rfl rfl ?_
      refine r_iconst 28 1 dX1_party_27 rfl rfl ?_
      refine r_icmp_ne 43 31 dX1_party_28 rfl rfl ?_ ?_
      · refine r_iload_n 44 2 dX1_party_43 rfl rfl rfl ?_
        refine r_iconst 45 2 dX1_party_44 rfl rfl ?_
        refine r_icmp_ne 60 48 dX1_party_45 rfl rfl ?_ ?_
        · refine r_iconst 61 (-1) dX1_party_60 rfl rfl ?_
          exact r_ireturn dX1_party_61 rfl
        · refine r_aload_n 49 0 dX1_party_48 rfl rfl rfl ?_
          refine r_get 52 (aR 103) dX1_party_49 fkX1_122 (fun _ => dsC_100 P W _) nn100 rfl rfl ?_
          refine r_iload_n 53 1 dX1_party_52 rfl rfl rfl ?_
          refine r_aald8q 54 dX1_party_53 (fun _ _ _ => dsC_103 P W _) (fun _ _ => nn103) rfl (fun p3 hp3 => ?_)
          refine r_callvI 57 (Mc := MPa_viewSize P W) (o := 1000 + 32 * p3) (as := []) (st := []) dX1_party_54 rfl (c_Pa_viewSize P W p3 hp3 G2) lkX1_329 (cmPa_viewSize P W) rfl rfl rfl (fun h => party_c P W hp3 h) (party_n hp3) rfl (Nat.le_of_ble_eq_true rfl) (Nat.le_of_ble_eq_true rfl) (fun _ => rfl) rfl (fun z4 G5 => ?_)
          refine r_goto 61 dX1_party_57 rfl ?_
          exact r_ireturn dX1_party_61 rfl
      · refine r_aload_n 32 0 dX1_party_31 rfl rfl rfl ?_
        refine r_get 35 (aR 103) dX1_party_32 fkX1_122 (fun _ => dsC_100 P W _) nn100 rfl rfl ?_
        refine r_iload_n 36 1 dX1_party_35 rfl rfl rfl ?_
        refine r_aald8q 37 dX1_party_36 (fun _ _ _ => dsC_103 P W _) (fun _ _ => nn103) rfl (fun p6 hp6 => ?_)
        refine r_get 40 (aI (G2 (1000 + 32 * p6) 8)) dX1_party_37 fkX1_326 (fun h => party_c P W hp6 h) (party_n hp6) rfl rfl ?_
        refine r_goto 61 dX1_party_40 rfl ?_
        exact r_ireturn dX1_party_61 rfl
    · refine r_aload_n 15 0 dX1_party_14 rfl rfl rfl ?_
      refine r_get 18 (aR 103) dX1_party_15 fkX1_122 (fun _ => dsC_100 P W _) nn100 rfl rfl ?_
      refine r_iload_n 19 1 dX1_party_18 rfl rfl rfl ?_
      refine r_aald8q 20 dX1_party_19 (fun _ _ _ => dsC_103 P W _) (fun _ _ => nn103) rfl (fun p7 hp7 => ?_)
      refine r_get 23 (aI (G2 (1000 + 32 * p7) 7)) dX1_party_20 fkX1_299 (fun h => party_c P W hp7 h) (party_n hp7) rfl rfl ?_
      refine r_goto 61 dX1_party_23 rfl ?_
      exact r_ireturn dX1_party_61 rfl
  · refine r_iconst 9 (-1) dX1_party_8 rfl rfl ?_
    exact r_ireturn dX1_party_9 rfl
theorem c_Ho_party (P W : Int) (x1 : Int) (x2 : Int) (G : St) : MG (MHo_party P W) [aR 100, aI x1, aI x2] G (Ho_party P W x1 x2 G) := MG.of plX1 (Nat.le_of_ble_eq_true rfl) (s_Ho_party P W x1 x2 G)
theorem s_Ho_dealt (P W : Int) (x1 : Int) (x2 : Int) (x3 : Int) (G : St) : SS (MHo_dealt P W) some 0 [(0, aR 100), (1, aI x1), (2, aI x2), (3, aI x3)] [] G (Ho_dealt P W x1 x2 x3 G) := by
  refine r_aload_n 1 0 dX1_dealt_0 rfl rfl rfl ?_
  refine r_iload_n 2 1 dX1_dealt_1 rfl rfl rfl ?_
  refine r_callvI 5 (Mc := MHo_isParty P W) (o := 100) (as := [aI x1]) (st := []) dX1_dealt_2 rfl (c_Ho_isParty P W x1 G) lkX1_323 (cmHo_isParty P W) rfl rfl rfl (fun _ => dsC_100 P W _) nn100 rfl (Nat.le_of_ble_eq_true rfl) (Nat.le_of_ble_eq_true rfl) (fun _ => rfl) rfl (fun z1 G2 => ?_)
  refine r_if_eq 35 8 dX1_dealt_5 rfl rfl ?_ ?_
  · refine r_iconst 36 (-1) dX1_dealt_35 rfl rfl ?_
    exact r_ireturn dX1_dealt_36 rfl
  · refine r_iload_n 9 2 dX1_dealt_8 rfl rfl rfl ?_
    refine r_if_lt 35 12 dX1_dealt_9 rfl rfl ?_ ?_
    · refine r_iconst 36 (-1) dX1_dealt_35 rfl rfl ?_
      exact r_ireturn dX1_dealt_36 rfl
    · refine r_iload_n 13 2 dX1_dealt_12 rfl rfl rfl ?_
      refine r_aload_n 14 0 dX1_dealt_13 rfl rfl rfl ?_
      refine r_get 17 (aR 140) dX1_dealt_14 fkX1_40 (fun _ => dsC_100 P W _) nn100 rfl rfl ?_
      refine r_get 20 (aI (G2 140 4)) dX1_dealt_17 fkX1_191 (fun _ => dsC_140 P W _) nn140 rfl rfl ?_
      refine r_icmp_ge 35 23 dX1_dealt_20 rfl rfl ?_ ?_
      · refine r_iconst 36 (-1) dX1_dealt_35 rfl rfl ?_
        exact r_ireturn dX1_dealt_36 rfl
      · refine r_aload_n 24 0 dX1_dealt_23 rfl rfl rfl ?_
        refine r_get 27 (aR 140) dX1_dealt_24 fkX1_40 (fun _ => dsC_100 P W _) nn100 rfl rfl ?_
        refine r_get 30 (aR 144) dX1_dealt_27 fkX1_227 (fun _ => dsC_140 P W _) nn140 rfl rfl ?_
        refine r_iload_n 31 2 dX1_dealt_30 rfl rfl rfl ?_
        refine r_zald 32 dX1_dealt_31 (fun _ _ _ => dsC_144 P W _) (fun _ _ => nn144) rfl ?_
        refine r_if_ne 37 35 dX1_dealt_32 rfl rfl ?_ ?_
        · refine r_iload_n 38 3 dX1_dealt_37 rfl rfl rfl ?_
          refine r_if_ne 57 41 dX1_dealt_38 rfl rfl ?_ ?_
          · refine r_iload_n 58 3 dX1_dealt_57 rfl rfl rfl ?_
            refine r_iconst 59 1 dX1_dealt_58 rfl rfl ?_
            refine r_icmp_ne 78 62 dX1_dealt_59 rfl rfl ?_ ?_
            · refine r_iload_n 79 3 dX1_dealt_78 rfl rfl rfl ?_
              refine r_iconst 80 2 dX1_dealt_79 rfl rfl ?_
              refine r_icmp_ne 99 83 dX1_dealt_80 rfl rfl ?_ ?_
              · refine r_iconst 100 (-1) dX1_dealt_99 rfl rfl ?_
                exact r_ireturn dX1_dealt_100 rfl
              · refine r_aload_n 84 0 dX1_dealt_83 rfl rfl rfl ?_
                refine r_get 87 (aR 103) dX1_dealt_84 fkX1_122 (fun _ => dsC_100 P W _) nn100 rfl rfl ?_
                refine r_iload_n 88 1 dX1_dealt_87 rfl rfl rfl ?_
                refine r_aald8q 89 dX1_dealt_88 (fun _ _ _ => dsC_103 P W _) (fun _ _ => nn103) rfl (fun p3 hp3 => ?_)
                refine r_get 92 (aR (1000 + 32 * p3 + 9)) dX1_dealt_89 fkX1_284 (fun h => party_c P W hp3 h) (party_n hp3) rfl rfl ?_
                refine r_iload_n 93 2 dX1_dealt_92 rfl rfl rfl ?_
                refine r_callvI 96 (Mc := MBt_get P W) (o := 1000 + 32 * p3 + 9) (as := [aI x2]) (st := []) dX1_dealt_93 rfl (c_Bt_get P W (1000 + 32 * p3 + 9) (isB_p9 hp3) x2 G2) lkX1_332 (cmBt_get P W) rfl rfl rfl (fun h => isB_c P W (isB_p9 hp3) h) (isB_n (isB_p9 hp3)) rfl (Nat.le_of_ble_eq_true rfl) (Nat.le_of_ble_eq_true rfl) (fun _ => rfl) rfl (fun z4 G5 => ?_)
                refine r_goto 100 dX1_dealt_96 rfl ?_
                exact r_ireturn dX1_dealt_100 rfl
            · refine r_aload_n 63 0 dX1_dealt_62 rfl rfl rfl ?_
              refine r_get 66 (aR 103) dX1_dealt_63 fkX1_122 (fun _ => dsC_100 P W _) nn100 rfl rfl ?_
              refine r_iload_n 67 1 dX1_dealt_66 rfl rfl rfl ?_
              refine r_aald8q 68 dX1_dealt_67 (fun _ _ _ => dsC_103 P W _) (fun _ _ => nn103) rfl (fun p6 hp6 => ?_)
              refine r_get 71 (aR (1000 + 32 * p6 + 7)) dX1_dealt_68 fkX1_281 (fun h => party_c P W hp6 h) (party_n hp6) rfl rfl ?_
              refine r_iload_n 72 2 dX1_dealt_71 rfl rfl rfl ?_
              refine r_callvI 75 (Mc := MBt_get P W) (o := 1000 + 32 * p6 + 7) (as := [aI x2]) (st := []) dX1_dealt_72 rfl (c_Bt_get P W (1000 + 32 * p6 + 7) (isB_p7 hp6) x2 G2) lkX1_332 (cmBt_get P W) rfl rfl rfl (fun h => isB_c P W (isB_p7 hp6) h) (isB_n (isB_p7 hp6)) rfl (Nat.le_of_ble_eq_true rfl) (Nat.le_of_ble_eq_true rfl) (fun _ => rfl) rfl (fun z7 G8 => ?_)
              refine r_goto 100 dX1_dealt_75 rfl ?_
              exact r_ireturn dX1_dealt_100 rfl
          · refine r_aload_n 42 0 dX1_dealt_41 rfl rfl rfl ?_
            refine r_get 45 (aR 103) dX1_dealt_42 fkX1_122 (fun _ => dsC_100 P W _) nn100 rfl rfl ?_
            refine r_iload_n 46 1 dX1_dealt_45 rfl rfl rfl ?_
            refine r_aald8q 47 dX1_dealt_46 (fun _ _ _ => dsC_103 P W _) (fun _ _ => nn103) rfl (fun p9 hp9 => ?_)
            refine r_get 50 (aR (1000 + 32 * p9 + 5)) dX1_dealt_47 fkX1_278 (fun h => party_c P W hp9 h) (party_n hp9) rfl rfl ?_
            refine r_iload_n 51 2 dX1_dealt_50 rfl rfl rfl ?_
            refine r_callvI 54 (Mc := MBt_get P W) (o := 1000 + 32 * p9 + 5) (as := [aI x2]) (st := []) dX1_dealt_51 rfl (c_Bt_get P W (1000 + 32 * p9 + 5) (isB_p5 hp9) x2 G2) lkX1_332 (cmBt_get P W) rfl rfl rfl (fun h => isB_c P W (isB_p5 hp9) h) (isB_n (isB_p5 hp9)) rfl (Nat.le_of_ble_eq_true rfl) (Nat.le_of_ble_eq_true rfl) (fun _ => rfl) rfl (fun z10 G11 => ?_)
            refine r_goto 100 dX1_dealt_54 rfl ?_
            exact r_ireturn dX1_dealt_100 rfl
        · refine r_iconst 36 (-1) dX1_dealt_35 rfl rfl ?_
          exact r_ireturn dX1_dealt_36 rfl
theorem c_Ho_dealt (P W : Int) (x1 : Int) (x2 : Int) (x3 : Int) (G : St) : MG (MHo_dealt P W) [aR 100, aI x1, aI x2, aI x3] G (Ho_dealt P W x1 x2 x3 G) := MG.of plX1 (Nat.le_of_ble_eq_true rfl) (s_Ho_dealt P W x1 x2 x3 G)
theorem s_Ho_share_b65 (P W : Int) (x1 : Int) (x2 : Int) (s0 : Int) (G : St) : SS (MHo_share P W) some 65 [(0, aR 100), (1, aI x1), (2, aI x2)] [aI s0] G (Ho_share_b65 P W x1 x2 s0 G) := by
  refine r_istore_n 66 [(3, aI s0), (0, aR 100), (1, aI x1), (2, aI x2)] dX1_share_65 rfl rfl rfl rfl ?_
  refine r_iload_n 67 0 dX1_share_66 rfl rfl rfl ?_
  refine r_aload_n 68 1 dX1_share_67 rfl rfl rfl ?_
  refine r_get 71 (aR 103) dX1_share_68 fkX1_122 (fun _ => dsC_100 P W _) nn100 rfl rfl ?_
  refine r_iload_n 72 2 dX1_share_71 rfl rfl rfl ?_
  refine r_aald8q 73 dX1_share_72 (fun _ _ _ => dsC_103 P W _) (fun _ _ => nn103) rfl (fun p3 hp3 => ?_)
  refine r_get 76 (aI (G (1000 + 32 * p3) 7)) dX1_share_73 fkX1_299 (fun h => party_c P W hp3 h) (party_n hp3) rfl rfl ?_
  refine r_icmp_ge 95 79 dX1_share_76 rfl rfl ?_ ?_
  · refine r_iconst 96 (-1) dX1_share_95 rfl rfl ?_
    exact r_ireturn dX1_share_96 rfl
  · refine r_aload_n 80 1 dX1_share_79 rfl rfl rfl ?_
    refine r_get 83 (aR 103) dX1_share_80 fkX1_122 (fun _ => dsC_100 P W _) nn100 rfl rfl ?_
    refine r_iload_n 84 2 dX1_share_83 rfl rfl rfl ?_
    refine r_aald8q 85 dX1_share_84 (fun _ _ _ => dsC_103 P W _) (fun _ _ => nn103) rfl (fun p4 hp4 => ?_)
    refine r_get 88 (aR (1000 + 32 * p4 + 1)) dX1_share_85 fkX1_335 (fun h => party_c P W hp4 h) (party_n hp4) rfl rfl ?_
    refine r_iload_n 89 3 dX1_share_88 rfl rfl rfl ?_
    refine r_callvI 92 (Mc := MBt_get P W) (o := 1000 + 32 * p4 + 1) (as := [aI x2]) (st := []) dX1_share_89 rfl (c_Bt_get P W (1000 + 32 * p4 + 1) (isB_p1 hp4) x2 G) lkX1_332 (cmBt_get P W) rfl rfl rfl (fun h => isB_c P W (isB_p1 hp4) h) (isB_n (isB_p1 hp4)) rfl (Nat.le_of_ble_eq_true rfl) (Nat.le_of_ble_eq_true rfl) (fun _ => rfl) rfl (fun z5 G6 => ?_)
    refine r_goto 96 dX1_share_92 rfl ?_
    exact r_ireturn dX1_share_96 rfl
theorem s_Ho_share (P W : Int) (x1 : Int) (x2 : Int) (G : St) : SS (MHo_share P W) some 0 [(0, aR 100), (1, aI x1), (2, aI x2)] [] G (Ho_share P W x1 x2 G) := by
  refine r_aload_n 1 0 dX1_share_0 rfl rfl rfl ?_
  refine r_iload_n 2 1 dX1_share_1 rfl rfl rfl ?_
  refine r_callvI 5 (Mc := MHo_isParty P W) (o := 100) (as := [aI x1]) (st := []) dX1_share_2 rfl (c_Ho_isParty P W x1 G) lkX1_323 (cmHo_isParty P W) rfl rfl rfl (fun _ => dsC_100 P W _) nn100 rfl (Nat.le_of_ble_eq_true rfl) (Nat.le_of_ble_eq_true rfl) (fun _ => rfl) rfl (fun z1 G2 => ?_)
  refine r_if_eq 31 8 dX1_share_5 rfl rfl ?_ ?_
  · refine r_iconst 32 (-1) dX1_share_31 rfl rfl ?_
    exact r_ireturn dX1_share_32 rfl
  · refine r_iload_n 9 2 dX1_share_8 rfl rfl rfl ?_
    refine r_if_lt 31 12 dX1_share_9 rfl rfl ?_ ?_
    · refine r_iconst 32 (-1) dX1_share_31 rfl rfl ?_
      exact r_ireturn dX1_share_32 rfl
    · refine r_iload_n 13 2 dX1_share_12 rfl rfl rfl ?_
      refine r_aload_n 14 0 dX1_share_13 rfl rfl rfl ?_
      refine r_get 17 (aR 140) dX1_share_14 fkX1_40 (fun _ => dsC_100 P W _) nn100 rfl rfl ?_
      refine r_get 20 (aI (G2 140 6)) dX1_share_17 fkX1_200 (fun _ => dsC_140 P W _) nn140 rfl rfl ?_
      refine r_aload_n 21 0 dX1_share_20 rfl rfl rfl ?_
      refine r_get 24 (aR 140) dX1_share_21 fkX1_40 (fun _ => dsC_100 P W _) nn100 rfl rfl ?_
      refine r_get 27 (aI (G2 140 4)) dX1_share_24 fkX1_191 (fun _ => dsC_140 P W _) nn140 rfl rfl ?_
      refine r_iadd 28 dX1_share_27 rfl ?_
      refine r_icmp_lt 33 31 dX1_share_28 rfl rfl ?_ ?_
      · refine r_iload_n 34 2 dX1_share_33 rfl rfl rfl ?_
        refine r_aload_n 35 0 dX1_share_34 rfl rfl rfl ?_
        refine r_get 38 (aR 140) dX1_share_35 fkX1_40 (fun _ => dsC_100 P W _) nn100 rfl rfl ?_
        refine r_get 41 (aI (G2 140 6)) dX1_share_38 fkX1_200 (fun _ => dsC_140 P W _) nn140 rfl rfl ?_
        refine r_icmp_ge 48 44 dX1_share_41 rfl rfl ?_ ?_
        · refine r_aload_n 49 0 dX1_share_48 rfl rfl rfl ?_
          refine r_get 52 (aR 140) dX1_share_49 fkX1_40 (fun _ => dsC_100 P W _) nn100 rfl rfl ?_
          refine r_get 55 (aR 143) dX1_share_52 fkX1_231 (fun _ => dsC_140 P W _) nn140 rfl rfl ?_
          refine r_iload_n 56 2 dX1_share_55 rfl rfl rfl ?_
          refine r_aload_n 57 0 dX1_share_56 rfl rfl rfl ?_
          refine r_get 60 (aR 140) dX1_share_57 fkX1_40 (fun _ => dsC_100 P W _) nn100 rfl rfl ?_
          refine r_get 63 (aI (G2 140 6)) dX1_share_60 fkX1_200 (fun _ => dsC_140 P W _) nn140 rfl rfl ?_
          refine r_isub 64 dX1_share_63 rfl ?_
          refine r_sald 65 dX1_share_64 (fun _ _ _ => dsC_143 P W _) (fun _ _ => nn143) rfl ?_
          exact s_Ho_share_b65 P W x1 x2 (G2 143 (x2 - (G2 140 6))) G2
        · refine r_iconst 45 0 dX1_share_44 rfl rfl ?_
          refine r_goto 65 dX1_share_45 rfl ?_
          exact s_Ho_share_b65 P W x1 x2 0 G2
      · refine r_iconst 32 (-1) dX1_share_31 rfl rfl ?_
        exact r_ireturn dX1_share_32 rfl
theorem c_Ho_share (P W : Int) (x1 : Int) (x2 : Int) (G : St) : MG (MHo_share P W) [aR 100, aI x1, aI x2] G (Ho_share P W x1 x2 G) := MG.of plX1 (Nat.le_of_ble_eq_true rfl) (s_Ho_share P W x1 x2 G)
theorem s_Pa_and_b44 (P W : Int) (p : Int) (hp : 0 ≤ p) (X4 : Int × Int × St → Option (Int × St)) (hX4 : ∀ s, So (MPa_and P W) 4 [(0, aR (1000 + 32 * p)), (2, aI (s.1)), (3, aI (s.2.1))] [] s.2.2 (X4 s)) (x3 : Int) (s0 : Int) (s1 : Int) (G : St) : SS (MPa_and P W) (lk X4 some) 44 [(0, aR (1000 + 32 * p)), (3, aI x3)] [aI s0, aI s1] G (Pa_and_b44 p x3 s0 s1 G) := by
  refine r_isub 45 dX14_and_44 rfl ?_
  refine r_istore_n 46 [(2, aI (s1 - s0)), (0, aR (1000 + 32 * p)), (3, aI x3)] dX14_and_45 rfl rfl rfl rfl ?_
  refine r_iinc 49 [(3, aI (x3 + 1)), (2, aI (s1 - s0)), (0, aR (1000 + 32 * p))] 2 dX14_and_46 rfl rfl rfl rfl ?_
  refine r_goto 4 dX14_and_49 rfl ?_
  refine r_to [2, 1, 0] [(0, aR (1000 + 32 * p)), (2, aI (s1 - s0)), (3, aI (x3 + 1))] rfl ?_
  exact SS.back (hX4 (s1 - s0, x3 + 1, G))
theorem s_Pa_and_b23 (P W : Int) (p : Int) (hp : 0 ≤ p) (X4 : Int × Int × St → Option (Int × St)) (hX4 : ∀ s, So (MPa_and P W) 4 [(0, aR (1000 + 32 * p)), (2, aI (s.1)), (3, aI (s.2.1))] [] s.2.2 (X4 s)) (x2 : Int) (x3 : Int) (G : St) : SS (MPa_and P W) (lk X4 some) 23 [(0, aR (1000 + 32 * p)), (2, aI x2), (3, aI x3)] [] G (Pa_and_b23 p x2 x3 G) := by
  refine r_iload_n 24 1 dX14_and_23 rfl rfl rfl ?_
  refine r_aload_n 25 0 dX14_and_24 rfl rfl rfl ?_
  refine r_get 28 (aR 220) dX14_and_25 fkX14_38 (fun h => party_c P W hp h) (party_n hp) rfl rfl ?_
  refine r_get 31 (aR 140) dX14_and_28 fkX14_58 (fun _ => dsC_220 P W _) nn220 rfl rfl ?_
  refine r_get 34 (aR 144) dX14_and_31 fkX14_125 (fun _ => dsC_140 P W _) nn140 rfl rfl ?_
  refine r_iload_n 35 2 dX14_and_34 rfl rfl rfl ?_
  refine r_zald 36 dX14_and_35 (fun _ _ _ => dsC_144 P W _) (fun _ _ => nn144) rfl ?_
  refine SS.phi (fun VV_ => Pa_and_b44 p x3 VV_ x2 G) ?_
  refine r_if_eq 43 39 dX14_and_36 rfl rfl ?_ ?_
  · refine r_iconst 44 0 dX14_and_43 rfl rfl ?_
    refine r_to [0, 2] [(0, aR (1000 + 32 * p)), (3, aI x3)] rfl ?_
    exact s_Pa_and_b44 P W p hp X4 hX4 x3 0 x2 G
  · refine r_iconst 40 1 dX14_and_39 rfl rfl ?_
    refine r_goto 44 dX14_and_40 rfl ?_
    refine r_to [0, 2] [(0, aR (1000 + 32 * p)), (3, aI x3)] rfl ?_
    exact s_Pa_and_b44 P W p hp X4 hX4 x3 1 x2 G
theorem s_Pa_and_s4 (P W : Int) (p : Int) (hp : 0 ≤ p) (X4 : Int × Int × St → Option (Int × St)) (hX4 : ∀ s, So (MPa_and P W) 4 [(0, aR (1000 + 32 * p)), (2, aI (s.1)), (3, aI (s.2.1))] [] s.2.2 (X4 s)) (x2 : Int) (x3 : Int) (G : St) : SS (MPa_and P W) (lk X4 some) 4 [(0, aR (1000 + 32 * p)), (2, aI x2), (3, aI x3)] [] G (Pa_and_s4 p x2 x3 G) := by
  refine r_iload_n 5 1 dX14_and_4 rfl rfl rfl ?_
  refine r_if_gt 23 8 dX14_and_5 rfl rfl ?_ ?_
  · exact s_Pa_and_b23 P W p hp X4 hX4 x2 x3 G
  · refine r_aload_n 9 0 dX14_and_8 rfl rfl rfl ?_
    refine r_get 12 (aR 220) dX14_and_9 fkX14_38 (fun h => party_c P W hp h) (party_n hp) rfl rfl ?_
    refine r_get 15 (aR 140) dX14_and_12 fkX14_58 (fun _ => dsC_220 P W _) nn220 rfl rfl ?_
    refine r_get 18 (aR 144) dX14_and_15 fkX14_125 (fun _ => dsC_140 P W _) nn140 rfl rfl ?_
    refine r_iload_n 19 2 dX14_and_18 rfl rfl rfl ?_
    refine r_zald 20 dX14_and_19 (fun _ _ _ => dsC_144 P W _) (fun _ _ => nn144) rfl ?_
    refine r_if_ne 52 23 dX14_and_20 rfl rfl ?_ ?_
    · refine SS.ex ?_
      refine r_iload_n 53 2 dX14_and_52 rfl rfl rfl ?_
      exact r_ireturn dX14_and_53 rfl
    · exact s_Pa_and_b23 P W p hp X4 hX4 x2 x3 G
theorem sl_Pa_and_4 (P W : Int) (p : Int) (hp : 0 ≤ p) (x2 : Int) (x3 : Int) (G : St) : SS (MPa_and P W) some 4 [(0, aR (1000 + 32 * p)), (2, aI x2), (3, aI x3)] [] G (Pa_and_l4 p x2 x3 G) := by
  exact SS.loop (σ := Int × Int × St) (fun s => [(0, aR (1000 + 32 * p)), (2, aI (s.1)), (3, aI (s.2.1))]) (fun s => s.2.2) (fun s => Pa_and_s4 p s.1 s.2.1 s.2.2) (fun X4 hX4 s => s_Pa_and_s4 P W p hp   X4 hX4 s.1 s.2.1 s.2.2) (x2, x3, G)
theorem s_Pa_and (P W : Int) (p : Int) (hp : 0 ≤ p) (x1 : Int) (G : St) : SS (MPa_and P W) some 0 [(0, aR (1000 + 32 * p)), (1, aI x1)] [] G (Pa_and p x1 G) := by
  refine r_iload_n 1 1 dX14_and_0 rfl rfl rfl ?_
  refine r_istore_n 2 [(2, aI x1), (0, aR (1000 + 32 * p)), (1, aI x1)] dX14_and_1 rfl rfl rfl rfl ?_
  refine r_iconst 3 0 dX14_and_2 rfl rfl ?_
  refine r_istore_n 4 [(3, aI 0), (2, aI x1), (0, aR (1000 + 32 * p)), (1, aI x1)] dX14_and_3 rfl rfl rfl rfl ?_
  refine r_to [2, 1, 0] [(0, aR (1000 + 32 * p)), (2, aI x1), (3, aI 0)] rfl ?_
  exact sl_Pa_and_4 P W p hp x1 0 G
theorem c_Pa_and (P W : Int) (p : Int) (hp : 0 ≤ p) (x1 : Int) (G : St) : MG (MPa_and P W) [aR (1000 + 32 * p), aI x1] G (Pa_and p x1 G) := MG.of plX14 (Nat.le_of_ble_eq_true rfl) (s_Pa_and P W p hp x1 G)
theorem s_Pa_view_s216 (P W : Int) (p : Int) (hp : 0 ≤ p) (X216 : Int × Int × St → Option (Int × St)) (hX216 : ∀ s, So (MPa_view P W) 216 [(0, aR (1000 + 32 * p)), (1, aR 103), (5, aI (s.1)), (6, aI (s.2.1))] [] s.2.2 (X216 s)) (x5 : Int) (x6 : Int) (G : St) : SS (MPa_view P W) (lk X216 some) 216 [(0, aR (1000 + 32 * p)), (1, aR 103), (5, aI x5), (6, aI x6)] [] G (Pa_view_s216 P W p x5 x6 G) := by
  refine r_iload 218 3 dX14_view_216 rfl rfl ?_
  refine r_aload_n 219 0 dX14_view_218 rfl rfl rfl ?_
  refine r_get 222 (aI (G (1000 + 32 * p) 8)) dX14_view_219 fkX14_49 (fun h => party_c P W hp h) (party_n hp) rfl rfl ?_
  refine r_icmp_ge 303 225 dX14_view_222 rfl rfl ?_ ?_
  · refine SS.ex ?_
    refine r_iconst 304 (-1) dX14_view_303 rfl rfl ?_
    exact r_ireturn dX14_view_304 rfl
  · refine r_aload_n 226 0 dX14_view_225 rfl rfl rfl ?_
    refine r_get 229 (aR 220) dX14_view_226 fkX14_38 (fun h => party_c P W hp h) (party_n hp) rfl rfl ?_
    refine r_aload_n 230 0 dX14_view_229 rfl rfl rfl ?_
    refine r_get 233 (aR (G (1000 + 32 * p) 11)) dX14_view_230 fkX14_34 (fun h => party_c P W hp h) (party_n hp) rfl rfl ?_
    refine r_iload 235 3 dX14_view_233 rfl rfl ?_
    refine r_iald 236 dX14_view_235 (fun h h0 h1 => ialC_c P W h (Int.lt_of_le_of_lt h0 h1)) (fun h0 h1 => ialC_n P W (Int.lt_of_le_of_lt h0 h1)) rfl ?_
    refine r_bipush 238 16 dX14_view_236 rfl rfl ?_
    refine r_irem 239 dX14_view_238 rfl ?_
    refine r_aload_n 240 0 dX14_view_239 rfl rfl rfl ?_
    refine r_get 243 (aR (G (1000 + 32 * p) 11)) dX14_view_240 fkX14_34 (fun h => party_c P W hp h) (party_n hp) rfl rfl ?_
    refine r_iload 245 3 dX14_view_243 rfl rfl ?_
    refine r_iald 246 dX14_view_245 (fun h h0 h1 => ialC_c P W h (Int.lt_of_le_of_lt h0 h1)) (fun h0 h1 => ialC_n P W (Int.lt_of_le_of_lt h0 h1)) rfl ?_
    refine r_bipush 248 16 dX14_view_246 rfl rfl ?_
    refine r_idiv 249 dX14_view_248 rfl ?_
    refine r_callvI 252 (Mc := MPl_length P W) (o := 220) (as := [aI ((G (G (1000 + 32 * p) 11) x6) % 16), aI ((G (G (1000 + 32 * p) 11) x6) / 16)]) (st := []) dX14_view_249 rfl (c_Pl_length P W ((G (G (1000 + 32 * p) 11) x6) % 16) ((G (G (1000 + 32 * p) 11) x6) / 16) G) lkX14_146 (cmPl_length P W) rfl rfl rfl (fun _ => dsC_220 P W _) nn220 rfl (Nat.le_of_ble_eq_true rfl) (Nat.le_of_ble_eq_true rfl) (fun _ => rfl) rfl (fun z7 G8 => ?_)
    refine r_istore 254 [(7, aI z7), (0, aR (1000 + 32 * p)), (1, aR 103), (5, aI x5), (6, aI x6)] dX14_view_252 rfl rfl rfl ?_
    refine r_iload 256 3 dX14_view_254 rfl rfl ?_
    refine r_iload 258 0 dX14_view_256 rfl rfl ?_
    refine r_icmp_ge 290 261 dX14_view_258 rfl rfl ?_ ?_
    · refine r_iload 292 3 dX14_view_290 rfl rfl ?_
      refine r_iload 294 0 dX14_view_292 rfl rfl ?_
      refine r_isub 295 dX14_view_294 rfl ?_
      refine r_istore 297 [(5, aI (x5 - z7)), (7, aI z7), (0, aR (1000 + 32 * p)), (1, aR 103), (6, aI x6)] dX14_view_295 rfl rfl rfl ?_
      refine r_iinc 300 [(6, aI (x6 + 1)), (5, aI (x5 - z7)), (7, aI z7), (0, aR (1000 + 32 * p)), (1, aR 103)] 4 dX14_view_297 rfl rfl rfl rfl ?_
      refine r_goto 216 dX14_view_300 rfl ?_
      refine r_to [3, 4, 1, 0] [(0, aR (1000 + 32 * p)), (1, aR 103), (5, aI (x5 - z7)), (6, aI (x6 + 1))] rfl ?_
      exact SS.back (hX216 (x5 - z7, x6 + 1, G8))
    · refine SS.ex ?_
      refine r_aload_n 262 2 dX14_view_261 rfl rfl rfl ?_
      refine r_aload_n 263 1 dX14_view_262 rfl rfl rfl ?_
      refine r_get 266 (aR (G8 (1000 + 32 * p) 11)) dX14_view_263 fkX14_34 (fun h => party_c P W hp h) (party_n hp) rfl rfl ?_
      refine r_iload 268 4 dX14_view_266 rfl rfl ?_
      refine r_iald 269 dX14_view_268 (fun h h0 h1 => ialC_c P W h (Int.lt_of_le_of_lt h0 h1)) (fun h0 h1 => ialC_n P W (Int.lt_of_le_of_lt h0 h1)) rfl ?_
      refine r_bipush 271 16 dX14_view_269 rfl rfl ?_
      refine r_irem 272 dX14_view_271 rfl ?_
      refine r_aald8q 273 dX14_view_272 (fun _ _ _ => dsC_103 P W _) (fun _ _ => nn103) rfl (fun p9 hp9 => ?_)
      refine r_aload_n 274 1 dX14_view_273 rfl rfl rfl ?_
      refine r_aload_n 275 1 dX14_view_274 rfl rfl rfl ?_
      refine r_get 278 (aR (G8 (1000 + 32 * p) 11)) dX14_view_275 fkX14_34 (fun h => party_c P W hp h) (party_n hp) rfl rfl ?_
      refine r_iload 280 4 dX14_view_278 rfl rfl ?_
      refine r_iald 281 dX14_view_280 (fun h h0 h1 => ialC_c P W h (Int.lt_of_le_of_lt h0 h1)) (fun h0 h1 => ialC_n P W (Int.lt_of_le_of_lt h0 h1)) rfl ?_
      refine r_bipush 283 16 dX14_view_281 rfl rfl ?_
      refine r_idiv 284 dX14_view_283 rfl ?_
      refine r_iload 286 3 dX14_view_284 rfl rfl ?_
      refine r_callvI 289 (Mc := MPa_bit P W) (o := 1000 + 32 * p9) (as := [aR (1000 + 32 * p), aI ((G8 (G8 (1000 + 32 * p) 11) x6) / 16), aI x5]) (st := []) dX14_view_286 rfl (c_Pa_bit P W p9 hp9 p ((G8 (G8 (1000 + 32 * p) 11) x6) / 16) x5 hp G8) lkX14_132 (cmPa_bit P W) rfl rfl rfl (fun h => party_c P W hp9 h) (party_n hp9) rfl (Nat.le_of_ble_eq_true rfl) (Nat.le_of_ble_eq_true rfl) (fun _ => rfl) rfl (fun z10 G11 => ?_)
      exact r_ireturn dX14_view_289 rfl
theorem sl_Pa_view_216 (P W : Int) (p : Int) (hp : 0 ≤ p) (x5 : Int) (x6 : Int) (G : St) : SS (MPa_view P W) some 216 [(0, aR (1000 + 32 * p)), (1, aR 103), (5, aI x5), (6, aI x6)] [] G (Pa_view_l216 P W p x5 x6 G) := by
  exact SS.loop (σ := Int × Int × St) (fun s => [(0, aR (1000 + 32 * p)), (1, aR 103), (5, aI (s.1)), (6, aI (s.2.1))]) (fun s => s.2.2) (fun s => Pa_view_s216 P W p s.1 s.2.1 s.2.2) (fun X216 hX216 s => s_Pa_view_s216 P W p hp   X216 hX216 s.1 s.2.1 s.2.2) (x5, x6, G)
theorem s_Pa_view_b79 (P W : Int) (p : Int) (hp : 0 ≤ p) (x3 : Int) (x4 : Int) (s0 : Int) (G : St) : SS (MPa_view P W) some 79 [(0, aR (1000 + 32 * p)), (3, aI x3), (4, aI x4)] [aI s0, aR 103] G (Pa_view_b79 P W p x3 x4 s0 G) := by
  refine r_aald8q 80 dX14_view_79 (fun _ _ _ => dsC_103 P W _) (fun _ _ => nn103) rfl (fun p20 hp20 => ?_)
  refine r_get 83 (aR (1000 + 32 * p20 + 3)) dX14_view_80 fkX14_21 (fun h => party_c P W hp20 h) (party_n hp20) rfl rfl ?_
  refine r_aload_n 84 0 dX14_view_83 rfl rfl rfl ?_
  refine r_get 87 (aR 220) dX14_view_84 fkX14_38 (fun h => party_c P W hp h) (party_n hp) rfl rfl ?_
  refine r_aload_n 88 0 dX14_view_87 rfl rfl rfl ?_
  refine r_get 91 (aI p) dX14_view_88 fkX14_42 (fun h => party_c P W hp h) (party_n hp) (party_num P W) rfl ?_
  refine r_iload_n 92 1 dX14_view_91 rfl rfl rfl ?_
  refine r_iload 94 2 dX14_view_92 rfl rfl ?_
  refine r_isub 95 dX14_view_94 rfl ?_
  refine r_aload_n 96 0 dX14_view_95 rfl rfl rfl ?_
  refine r_get 99 (aR 220) dX14_view_96 fkX14_38 (fun h => party_c P W hp h) (party_n hp) rfl rfl ?_
  refine r_get 102 (aI P) dX14_view_99 fkX14_101 (fun _ => dsC_220 P W _) nn220 rfl rfl ?_
  refine r_iconst 103 1 dX14_view_102 rfl rfl ?_
  refine r_isub 104 dX14_view_103 rfl ?_
  refine r_idiv 105 dX14_view_104 rfl ?_
  refine r_callvI 108 (Mc := MPl_wireOf P W) (o := 220) (as := [aI p, aI ((x3 - x4) / (P - 1))]) (st := [aR (1000 + 32 * p20 + 3)]) dX14_view_105 rfl (c_Pl_wireOf P W p ((x3 - x4) / (P - 1)) G) lkX14_73 (cmPl_wireOf P W) rfl rfl rfl (fun _ => dsC_220 P W _) nn220 rfl (Nat.le_of_ble_eq_true rfl) (Nat.le_of_ble_eq_true rfl) (fun _ => rfl) rfl (fun z21 G22 => ?_)
  refine r_callvI 111 (Mc := MBt_get P W) (o := 1000 + 32 * p20 + 3) (as := [aI z21]) (st := []) dX14_view_108 rfl (c_Bt_get P W (1000 + 32 * p20 + 3) (isB_p3 hp20) z21 G22) lkX14_69 (cmBt_get P W) rfl rfl rfl (fun h => isB_c P W (isB_p3 hp20) h) (isB_n (isB_p3 hp20)) rfl (Nat.le_of_ble_eq_true rfl) (Nat.le_of_ble_eq_true rfl) (fun _ => rfl) rfl (fun z23 G24 => ?_)
  exact r_ireturn dX14_view_111 rfl
theorem s_Pa_view (P W : Int) (p : Int) (hp : 0 ≤ p) (x3 : Int) (G : St) : SS (MPa_view P W) some 0 [(0, aR (1000 + 32 * p)), (1, aR 103), (2, aR 105), (3, aI x3)] [] G (Pa_view P W p x3 G) := by
  refine r_aload_n 1 0 dX14_view_0 rfl rfl rfl ?_
  refine r_get 4 (aR 220) dX14_view_1 fkX14_38 (fun h => party_c P W hp h) (party_n hp) rfl rfl ?_
  refine r_aload_n 5 0 dX14_view_4 rfl rfl rfl ?_
  refine r_get 8 (aI p) dX14_view_5 fkX14_42 (fun h => party_c P W hp h) (party_n hp) (party_num P W) rfl ?_
  refine r_callvI 11 (Mc := MPl_owned P W) (o := 220) (as := [aI p]) (st := []) dX14_view_8 rfl (c_Pl_owned P W p G) lkX14_136 (cmPl_owned P W) rfl rfl rfl (fun _ => dsC_220 P W _) nn220 rfl (Nat.le_of_ble_eq_true rfl) (Nat.le_of_ble_eq_true rfl) (fun _ => rfl) rfl (fun z1 G2 => ?_)
  refine r_istore 13 [(4, aI z1), (0, aR (1000 + 32 * p)), (1, aR 103), (2, aR 105), (3, aI x3)] dX14_view_11 rfl rfl rfl ?_
  refine r_iload_n 14 4 dX14_view_13 rfl rfl rfl ?_
  refine r_iload 16 0 dX14_view_14 rfl rfl ?_
  refine r_icmp_ge 36 19 dX14_view_16 rfl rfl ?_ ?_
  · refine r_iload_n 37 4 dX14_view_36 rfl rfl rfl ?_
    refine r_aload_n 38 1 dX14_view_37 rfl rfl rfl ?_
    refine r_callvI 41 (Mc := MPa_ownBits P W) (o := 1000 + 32 * p) (as := []) (st := [aI x3]) dX14_view_38 rfl (c_Pa_ownBits P W p hp G2) lkX14_139 (cmPa_ownBits P W) rfl rfl rfl (fun h => party_c P W hp h) (party_n hp) rfl (Nat.le_of_ble_eq_true rfl) (Nat.le_of_ble_eq_true rfl) (fun _ => rfl) rfl (fun z3 G4 => ?_)
    refine r_icmp_ge 112 44 dX14_view_41 rfl rfl ?_ ?_
    · refine r_iload_n 113 4 dX14_view_112 rfl rfl rfl ?_
      refine r_aload_n 114 1 dX14_view_113 rfl rfl rfl ?_
      refine r_callvI 117 (Mc := MPa_ownBits P W) (o := 1000 + 32 * p) (as := []) (st := [aI x3]) dX14_view_114 rfl (c_Pa_ownBits P W p hp G4) lkX14_139 (cmPa_ownBits P W) rfl rfl rfl (fun h => party_c P W hp h) (party_n hp) rfl (Nat.le_of_ble_eq_true rfl) (Nat.le_of_ble_eq_true rfl) (fun _ => rfl) rfl (fun z5 G6 => ?_)
      refine r_isub 118 dX14_view_117 rfl ?_
      refine r_istore 120 [(5, aI (x3 - z5)), (4, aI z1), (0, aR (1000 + 32 * p)), (1, aR 103), (2, aR 105), (3, aI x3)] dX14_view_118 rfl rfl rfl ?_
      refine r_iload 122 0 dX14_view_120 rfl rfl ?_
      refine r_iconst 123 3 dX14_view_122 rfl rfl ?_
      refine r_aload_n 124 2 dX14_view_123 rfl rfl rfl ?_
      refine r_get 127 (aR 220) dX14_view_124 fkX14_38 (fun h => party_c P W hp h) (party_n hp) rfl rfl ?_
      refine r_get 130 (aR 140) dX14_view_127 fkX14_58 (fun _ => dsC_220 P W _) nn220 rfl rfl ?_
      refine r_get 133 (aI (G6 140 5)) dX14_view_130 fkX14_143 (fun _ => dsC_140 P W _) nn140 rfl rfl ?_
      refine r_imul 134 dX14_view_133 rfl ?_
      refine r_icmp_ge 196 137 dX14_view_134 rfl rfl ?_ ?_
      · refine r_iload 198 0 dX14_view_196 rfl rfl ?_
        refine r_iconst 199 3 dX14_view_198 rfl rfl ?_
        refine r_aload_n 200 2 dX14_view_199 rfl rfl rfl ?_
        refine r_get 203 (aR 220) dX14_view_200 fkX14_38 (fun h => party_c P W hp h) (party_n hp) rfl rfl ?_
        refine r_get 206 (aR 140) dX14_view_203 fkX14_58 (fun _ => dsC_220 P W _) nn220 rfl rfl ?_
        refine r_get 209 (aI (G6 140 5)) dX14_view_206 fkX14_143 (fun _ => dsC_140 P W _) nn140 rfl rfl ?_
        refine r_imul 210 dX14_view_209 rfl ?_
        refine r_isub 211 dX14_view_210 rfl ?_
        refine r_istore 213 [(5, aI ((x3 - z5) - (3 * (G6 140 5)))), (4, aI z1), (0, aR (1000 + 32 * p)), (1, aR 103), (2, aR 105), (3, aI x3)] dX14_view_211 rfl rfl rfl ?_
        refine r_iconst 214 0 dX14_view_213 rfl rfl ?_
        refine r_istore 216 [(6, aI 0), (5, aI ((x3 - z5) - (3 * (G6 140 5)))), (4, aI z1), (0, aR (1000 + 32 * p)), (1, aR 103), (2, aR 105), (3, aI x3)] dX14_view_214 rfl rfl rfl ?_
        refine r_to [3, 4, 1, 0] [(0, aR (1000 + 32 * p)), (1, aR 103), (5, aI ((x3 - z5) - (3 * (G6 140 5)))), (6, aI 0)] rfl ?_
        exact sl_Pa_view_216 P W p hp ((x3 - z5) - (3 * (G6 140 5))) 0 G6
      · refine r_aload_n 138 2 dX14_view_137 rfl rfl rfl ?_
        refine r_iload 140 0 dX14_view_138 rfl rfl ?_
        refine r_iconst 141 3 dX14_view_140 rfl rfl ?_
        refine r_idiv 142 dX14_view_141 rfl ?_
        refine r_callvI 145 (Mc := MPa_and P W) (o := 1000 + 32 * p) (as := [aI ((x3 - z5) / 3)]) (st := []) dX14_view_142 rfl (c_Pa_and P W p hp ((x3 - z5) / 3) G6) lkX14_149 (cmPa_and P W) rfl rfl rfl (fun h => party_c P W hp h) (party_n hp) rfl (Nat.le_of_ble_eq_true rfl) (Nat.le_of_ble_eq_true rfl) (fun _ => rfl) rfl (fun z12 G13 => ?_)
        refine r_istore 147 [(6, aI z12), (5, aI (x3 - z5)), (4, aI z1), (0, aR (1000 + 32 * p)), (1, aR 103), (2, aR 105), (3, aI x3)] dX14_view_145 rfl rfl rfl ?_
        refine r_iload 149 1 dX14_view_147 rfl rfl ?_
        refine r_iconst 150 3 dX14_view_149 rfl rfl ?_
        refine r_irem 151 dX14_view_150 rfl ?_
        refine r_if_ne 166 154 dX14_view_151 rfl rfl ?_ ?_
        · refine r_iload 168 1 dX14_view_166 rfl rfl ?_
          refine r_iconst 169 3 dX14_view_168 rfl rfl ?_
          refine r_irem 170 dX14_view_169 rfl ?_
          refine r_iconst 171 1 dX14_view_170 rfl rfl ?_
          refine r_icmp_ne 186 174 dX14_view_171 rfl rfl ?_ ?_
          · refine r_aload_n 187 3 dX14_view_186 rfl rfl rfl ?_
            refine r_get 190 (aR (1000 + 32 * p + 9)) dX14_view_187 fkX14_31 (fun h => party_c P W hp h) (party_n hp) rfl rfl ?_
            refine r_iload 192 0 dX14_view_190 rfl rfl ?_
            refine r_callvI 195 (Mc := MBt_get P W) (o := 1000 + 32 * p + 9) (as := [aI z12]) (st := []) dX14_view_192 rfl (c_Bt_get P W (1000 + 32 * p + 9) (isB_p9 hp) z12 G13) lkX14_69 (cmBt_get P W) rfl rfl rfl (fun h => isB_c P W (isB_p9 hp) h) (isB_n (isB_p9 hp)) rfl (Nat.le_of_ble_eq_true rfl) (Nat.le_of_ble_eq_true rfl) (fun _ => rfl) rfl (fun z14 G15 => ?_)
            exact r_ireturn dX14_view_195 rfl
          · refine r_aload_n 175 3 dX14_view_174 rfl rfl rfl ?_
            refine r_get 178 (aR (1000 + 32 * p + 7)) dX14_view_175 fkX14_28 (fun h => party_c P W hp h) (party_n hp) rfl rfl ?_
            refine r_iload 180 0 dX14_view_178 rfl rfl ?_
            refine r_callvI 183 (Mc := MBt_get P W) (o := 1000 + 32 * p + 7) (as := [aI z12]) (st := []) dX14_view_180 rfl (c_Bt_get P W (1000 + 32 * p + 7) (isB_p7 hp) z12 G13) lkX14_69 (cmBt_get P W) rfl rfl rfl (fun h => isB_c P W (isB_p7 hp) h) (isB_n (isB_p7 hp)) rfl (Nat.le_of_ble_eq_true rfl) (Nat.le_of_ble_eq_true rfl) (fun _ => rfl) rfl (fun z16 G17 => ?_)
            refine r_goto 195 dX14_view_183 rfl ?_
            exact r_ireturn dX14_view_195 rfl
        · refine r_aload_n 155 3 dX14_view_154 rfl rfl rfl ?_
          refine r_get 158 (aR (1000 + 32 * p + 5)) dX14_view_155 fkX14_25 (fun h => party_c P W hp h) (party_n hp) rfl rfl ?_
          refine r_iload 160 0 dX14_view_158 rfl rfl ?_
          refine r_callvI 163 (Mc := MBt_get P W) (o := 1000 + 32 * p + 5) (as := [aI z12]) (st := []) dX14_view_160 rfl (c_Bt_get P W (1000 + 32 * p + 5) (isB_p5 hp) z12 G13) lkX14_69 (cmBt_get P W) rfl rfl rfl (fun h => isB_c P W (isB_p5 hp) h) (isB_n (isB_p5 hp)) rfl (Nat.le_of_ble_eq_true rfl) (Nat.le_of_ble_eq_true rfl) (fun _ => rfl) rfl (fun z18 G19 => ?_)
          refine r_goto 195 dX14_view_163 rfl ?_
          exact r_ireturn dX14_view_195 rfl
    · refine r_iload_n 45 4 dX14_view_44 rfl rfl rfl ?_
      refine r_iload 47 0 dX14_view_45 rfl rfl ?_
      refine r_isub 48 dX14_view_47 rfl ?_
      refine r_aload_n 49 1 dX14_view_48 rfl rfl rfl ?_
      refine r_get 52 (aR 220) dX14_view_49 fkX14_38 (fun h => party_c P W hp h) (party_n hp) rfl rfl ?_
      refine r_get 55 (aI P) dX14_view_52 fkX14_101 (fun _ => dsC_220 P W _) nn220 rfl rfl ?_
      refine r_iconst 56 1 dX14_view_55 rfl rfl ?_
      refine r_isub 57 dX14_view_56 rfl ?_
      refine r_irem 58 dX14_view_57 rfl ?_
      refine r_istore 60 [(5, aI ((x3 - z1) % (P - 1))), (4, aI z1), (0, aR (1000 + 32 * p)), (1, aR 103), (2, aR 105), (3, aI x3)] dX14_view_58 rfl rfl rfl ?_
      refine r_aload_n 61 3 dX14_view_60 rfl rfl rfl ?_
      refine r_iload 63 0 dX14_view_61 rfl rfl ?_
      refine r_aload_n 64 2 dX14_view_63 rfl rfl rfl ?_
      refine r_get 67 (aI p) dX14_view_64 fkX14_42 (fun h => party_c P W hp h) (party_n hp) (party_num P W) rfl ?_
      refine r_icmp_ge 75 70 dX14_view_67 rfl rfl ?_ ?_
      · refine r_iload 77 0 dX14_view_75 rfl rfl ?_
        refine r_iconst 78 1 dX14_view_77 rfl rfl ?_
        refine r_iadd 79 dX14_view_78 rfl ?_
        refine r_to [2, 5, 1] [(0, aR (1000 + 32 * p)), (3, aI x3), (4, aI z1)] rfl ?_
        exact s_Pa_view_b79 P W p hp x3 z1 (((x3 - z1) % (P - 1)) + 1) G4
      · refine r_iload 72 0 dX14_view_70 rfl rfl ?_
        refine r_goto 79 dX14_view_72 rfl ?_
        refine r_to [2, 5, 1] [(0, aR (1000 + 32 * p)), (3, aI x3), (4, aI z1)] rfl ?_
        exact s_Pa_view_b79 P W p hp x3 z1 ((x3 - z1) % (P - 1)) G4
  · refine r_aload_n 20 3 dX14_view_19 rfl rfl rfl ?_
    refine r_aload_n 21 1 dX14_view_20 rfl rfl rfl ?_
    refine r_get 24 (aR 220) dX14_view_21 fkX14_38 (fun h => party_c P W hp h) (party_n hp) rfl rfl ?_
    refine r_aload_n 25 1 dX14_view_24 rfl rfl rfl ?_
    refine r_get 28 (aI p) dX14_view_25 fkX14_42 (fun h => party_c P W hp h) (party_n hp) (party_num P W) rfl ?_
    refine r_iload_n 29 4 dX14_view_28 rfl rfl rfl ?_
    refine r_callvI 32 (Mc := MPl_wireOf P W) (o := 220) (as := [aI p, aI x3]) (st := [aR 105]) dX14_view_29 rfl (c_Pl_wireOf P W p x3 G2) lkX14_73 (cmPl_wireOf P W) rfl rfl rfl (fun _ => dsC_220 P W _) nn220 rfl (Nat.le_of_ble_eq_true rfl) (Nat.le_of_ble_eq_true rfl) (fun _ => rfl) rfl (fun z25 G26 => ?_)
    refine r_callvI 35 (Mc := MBt_get P W) (o := 105) (as := [aI z25]) (st := []) dX14_view_32 rfl (c_Bt_get P W 105 isB_105 z25 G26) lkX14_69 (cmBt_get P W) rfl rfl rfl (fun h => isB_c P W isB_105 h) (isB_n isB_105) rfl (Nat.le_of_ble_eq_true rfl) (Nat.le_of_ble_eq_true rfl) (fun _ => rfl) rfl (fun z27 G28 => ?_)
    exact r_ireturn dX14_view_35 rfl
theorem c_Pa_view (P W : Int) (p : Int) (hp : 0 ≤ p) (x3 : Int) (G : St) : MG (MPa_view P W) [aR (1000 + 32 * p), aR 103, aR 105, aI x3] G (Pa_view P W p x3 G) := MG.of plX14 (Nat.le_of_ble_eq_true rfl) (s_Pa_view P W p hp x3 G)
theorem s_Ho_view (P W : Int) (x1 : Int) (x2 : Int) (G : St) : SS (MHo_view P W) some 0 [(0, aR 100), (1, aI x1), (2, aI x2)] [] G (Ho_view P W x1 x2 G) := by
  refine r_aload_n 1 0 dX1_view_0 rfl rfl rfl ?_
  refine r_iload_n 2 1 dX1_view_1 rfl rfl rfl ?_
  refine r_callvI 5 (Mc := MHo_isParty P W) (o := 100) (as := [aI x1]) (st := []) dX1_view_2 rfl (c_Ho_isParty P W x1 G) lkX1_323 (cmHo_isParty P W) rfl rfl rfl (fun _ => dsC_100 P W _) nn100 rfl (Nat.le_of_ble_eq_true rfl) (Nat.le_of_ble_eq_true rfl) (fun _ => rfl) rfl (fun z1 G2 => ?_)
  refine r_if_eq 33 8 dX1_view_5 rfl rfl ?_ ?_
  · refine r_iconst 34 (-1) dX1_view_33 rfl rfl ?_
    exact r_ireturn dX1_view_34 rfl
  · refine r_iload_n 9 2 dX1_view_8 rfl rfl rfl ?_
    refine r_if_lt 33 12 dX1_view_9 rfl rfl ?_ ?_
    · refine r_iconst 34 (-1) dX1_view_33 rfl rfl ?_
      exact r_ireturn dX1_view_34 rfl
    · refine r_aload_n 13 0 dX1_view_12 rfl rfl rfl ?_
      refine r_get 16 (aR 103) dX1_view_13 fkX1_122 (fun _ => dsC_100 P W _) nn100 rfl rfl ?_
      refine r_iload_n 17 1 dX1_view_16 rfl rfl rfl ?_
      refine r_aald8q 18 dX1_view_17 (fun _ _ _ => dsC_103 P W _) (fun _ _ => nn103) rfl (fun p3 hp3 => ?_)
      refine r_aload_n 19 0 dX1_view_18 rfl rfl rfl ?_
      refine r_get 22 (aR 103) dX1_view_19 fkX1_122 (fun _ => dsC_100 P W _) nn100 rfl rfl ?_
      refine r_aload_n 23 0 dX1_view_22 rfl rfl rfl ?_
      refine r_get 26 (aR 105) dX1_view_23 fkX1_60 (fun _ => dsC_100 P W _) nn100 rfl rfl ?_
      refine r_iload_n 27 2 dX1_view_26 rfl rfl rfl ?_
      refine r_callvI 30 (Mc := MPa_view P W) (o := 1000 + 32 * p3) (as := [aR 103, aR 105, aI x2]) (st := []) dX1_view_27 rfl (c_Pa_view P W p3 hp3 x2 G2) lkX1_338 (cmPa_view P W) rfl rfl rfl (fun h => party_c P W hp3 h) (party_n hp3) rfl (Nat.le_of_ble_eq_true rfl) (Nat.le_of_ble_eq_true rfl) (fun _ => rfl) rfl (fun z4 G5 => ?_)
      refine r_goto 34 dX1_view_30 rfl ?_
      exact r_ireturn dX1_view_34 rfl
theorem c_Ho_view (P W : Int) (x1 : Int) (x2 : Int) (G : St) : MG (MHo_view P W) [aR 100, aI x1, aI x2] G (Ho_view P W x1 x2 G) := MG.of plX1 (Nat.le_of_ble_eq_true rfl) (s_Ho_view P W x1 x2 G)
theorem s_Ho_told_b28 (P W : Int) (G : St) : SS (MHo_told P W) some 28 [] [] G (Ho_told_b28 P W G) := by
  refine r_ldc2 31 (-1) dX1_told_28 q1660 (by decide) rfl rfl ?_
  exact r_lreturn dX1_told_31 rfl
theorem s_Ho_told_s57 (P W : Int) (x2 : Int) (X37 : Int × Int × St → Option (Int × St)) (hX37 : ∀ s, So (MHo_told P W) 37 [(0, aR 100), (2, aI x2), (3, aL (s.1)), (5, aI (s.2.1))] [] s.2.2 (X37 s)) (x3 : Int) (x5 : Int) (X57 : Int × Int × St → Option (Int × St)) (hX57 : ∀ s, So (MHo_told P W) 57 [(0, aR 100), (2, aI x2), (3, aL x3), (5, aI x5), (6, aI (s.1)), (7, aI (s.2.1))] [] s.2.2 (X57 s)) (x6 : Int) (x7 : Int) (G : St) : SS (MHo_told P W) (lk X57 (lk X37 some)) 57 [(0, aR 100), (2, aI x2), (3, aL x3), (5, aI x5), (6, aI x6), (7, aI x7)] [] G (Ho_told_s57 P W x2 x3 x5 x6 x7 G) := by
  refine r_iload 59 5 dX1_told_57 rfl rfl ?_
  refine r_aload_n 60 0 dX1_told_59 rfl rfl rfl ?_
  refine r_get 63 (aI P) dX1_told_60 fkX1_77 (fun _ => dsC_100 P W _) nn100 rfl rfl ?_
  refine r_icmp_ge 104 66 dX1_told_63 rfl rfl ?_ ?_
  · refine SS.ex ?_
    refine r_lload_n 105 2 dX1_told_104 rfl rfl rfl ?_
    refine r_iload 107 4 dX1_told_105 rfl rfl ?_
    refine r_i2l 108 dX1_told_107 rfl ?_
    refine r_iload 110 3 dX1_told_108 rfl rfl ?_
    refine r_lshl 111 dX1_told_110 rfl ?_
    refine r_lor 112 dX1_told_111 rfl ?_
    refine r_lstore_n 113 [(3, aL (j_lor x3 (j_lsl x6 x5))), (0, aR 100), (2, aI x2), (5, aI x5), (6, aI x6), (7, aI x7)] dX1_told_112 rfl rfl rfl rfl ?_
    refine r_iinc 116 [(5, aI (x5 + 1)), (3, aL (j_lor x3 (j_lsl x6 x5))), (0, aR 100), (2, aI x2), (6, aI x6), (7, aI x7)] 3 dX1_told_113 rfl rfl rfl rfl ?_
    refine r_goto 37 dX1_told_116 rfl ?_
    refine r_to [2, 3, 1, 0] [(0, aR 100), (2, aI x2), (3, aL (j_lor x3 (j_lsl x6 x5))), (5, aI (x5 + 1))] rfl ?_
    exact SS.back (hX37 (j_lor x3 (j_lsl x6 x5), x5 + 1, G))
  · refine r_iload 68 4 dX1_told_66 rfl rfl ?_
    refine r_aload_n 69 0 dX1_told_68 rfl rfl rfl ?_
    refine r_get 72 (aR 103) dX1_told_69 fkX1_122 (fun _ => dsC_100 P W _) nn100 rfl rfl ?_
    refine r_iload 74 5 dX1_told_72 rfl rfl ?_
    refine r_aald8q 75 dX1_told_74 (fun _ _ _ => dsC_103 P W _) (fun _ _ => nn103) rfl (fun p8 hp8 => ?_)
    refine r_aload_n 76 0 dX1_told_75 rfl rfl rfl ?_
    refine r_get 79 (aR 180) dX1_told_76 fkX1_107 (fun _ => dsC_100 P W _) nn100 rfl rfl ?_
    refine r_get 82 (aR 203) dX1_told_79 fkX1_248 (fun _ => dsC_180 P W _) nn180 rfl rfl ?_
    refine r_aload_n 83 0 dX1_told_82 rfl rfl rfl ?_
    refine r_get 86 (aI W) dX1_told_83 fkX1_81 (fun _ => dsC_100 P W _) nn100 rfl rfl ?_
    refine r_iload_n 87 1 dX1_told_86 rfl rfl rfl ?_
    refine r_imul 88 dX1_told_87 rfl ?_
    refine r_iload 90 3 dX1_told_88 rfl rfl ?_
    refine r_iadd 91 dX1_told_90 rfl ?_
    refine r_iald 92 dX1_told_91 (fun _ _ _ => dsC_203 P W _) (fun _ _ => nn203) rfl ?_
    refine r_callvI 95 (Mc := MPa_shareOf P W) (o := 1000 + 32 * p8) (as := [aI (G 203 ((W * x2) + x5))]) (st := [aI x6]) dX1_told_92 rfl (c_Pa_shareOf P W p8 hp8 (G 203 ((W * x2) + x5)) G) lkX1_342 (cmPa_shareOf P W) rfl rfl rfl (fun h => party_c P W hp8 h) (party_n hp8) rfl (Nat.le_of_ble_eq_true rfl) (Nat.le_of_ble_eq_true rfl) (fun _ => rfl) rfl (fun z9 G10 => ?_)
    refine r_ixor 96 dX1_told_95 rfl ?_
    refine r_istore 98 [(6, aI (j_xo x6 z9)), (0, aR 100), (2, aI x2), (3, aL x3), (5, aI x5), (7, aI x7)] dX1_told_96 rfl rfl rfl ?_
    refine r_iinc 101 [(7, aI (x7 + 1)), (6, aI (j_xo x6 z9)), (0, aR 100), (2, aI x2), (3, aL x3), (5, aI x5)] 5 dX1_told_98 rfl rfl rfl rfl ?_
    refine r_goto 57 dX1_told_101 rfl ?_
    refine r_to [2, 3, 4, 5, 1, 0] [(0, aR 100), (2, aI x2), (3, aL x3), (5, aI x5), (6, aI (j_xo x6 z9)), (7, aI (x7 + 1))] rfl ?_
    exact SS.back (hX57 (j_xo x6 z9, x7 + 1, G10))
theorem sl_Ho_told_57 (P W : Int) (x2 : Int) (X37 : Int × Int × St → Option (Int × St)) (hX37 : ∀ s, So (MHo_told P W) 37 [(0, aR 100), (2, aI x2), (3, aL (s.1)), (5, aI (s.2.1))] [] s.2.2 (X37 s)) (x3 : Int) (x5 : Int) (x6 : Int) (x7 : Int) (G : St) : SS (MHo_told P W) (lk X37 some) 57 [(0, aR 100), (2, aI x2), (3, aL x3), (5, aI x5), (6, aI x6), (7, aI x7)] [] G (Ho_told_l57 P W x2 x3 x5 x6 x7 G) := by
  exact SS.loop (σ := Int × Int × St) (fun s => [(0, aR 100), (2, aI x2), (3, aL x3), (5, aI x5), (6, aI (s.1)), (7, aI (s.2.1))]) (fun s => s.2.2) (fun s => Ho_told_s57 P W x2 x3 x5 s.1 s.2.1 s.2.2) (fun X57 hX57 s => s_Ho_told_s57 P W x2 X37 hX37 x3 x5  X57 hX57 s.1 s.2.1 s.2.2) (x6, x7, G)
theorem s_Ho_told_s37 (P W : Int) (x2 : Int) (X37 : Int × Int × St → Option (Int × St)) (hX37 : ∀ s, So (MHo_told P W) 37 [(0, aR 100), (2, aI x2), (3, aL (s.1)), (5, aI (s.2.1))] [] s.2.2 (X37 s)) (x3 : Int) (x5 : Int) (G : St) : SS (MHo_told P W) (lk X37 some) 37 [(0, aR 100), (2, aI x2), (3, aL x3), (5, aI x5)] [] G (Ho_told_s37 P W x2 x3 x5 G) := by
  refine r_iload 39 3 dX1_told_37 rfl rfl ?_
  refine r_aload_n 40 0 dX1_told_39 rfl rfl rfl ?_
  refine r_get 43 (aR 180) dX1_told_40 fkX1_107 (fun _ => dsC_100 P W _) nn100 rfl rfl ?_
  refine r_get 46 (aR 204) dX1_told_43 fkX1_245 (fun _ => dsC_180 P W _) nn180 rfl rfl ?_
  refine r_iload_n 47 1 dX1_told_46 rfl rfl rfl ?_
  refine r_iald 48 dX1_told_47 (fun _ _ _ => dsC_204 P W _) (fun _ _ => nn204) rfl ?_
  refine r_icmp_ge 119 51 dX1_told_48 rfl rfl ?_ ?_
  · refine SS.ex ?_
    refine r_lload_n 120 2 dX1_told_119 rfl rfl rfl ?_
    exact r_lreturn dX1_told_120 rfl
  · refine r_iconst 52 0 dX1_told_51 rfl rfl ?_
    refine r_istore 54 [(6, aI 0), (0, aR 100), (2, aI x2), (3, aL x3), (5, aI x5)] dX1_told_52 rfl rfl rfl ?_
    refine r_iconst 55 0 dX1_told_54 rfl rfl ?_
    refine r_istore 57 [(7, aI 0), (6, aI 0), (0, aR 100), (2, aI x2), (3, aL x3), (5, aI x5)] dX1_told_55 rfl rfl rfl ?_
    refine r_to [2, 3, 4, 5, 1, 0] [(0, aR 100), (2, aI x2), (3, aL x3), (5, aI x5), (6, aI 0), (7, aI 0)] rfl ?_
    exact sl_Ho_told_57 P W x2 X37 hX37 x3 x5 0 0 G
theorem sl_Ho_told_37 (P W : Int) (x2 : Int) (x3 : Int) (x5 : Int) (G : St) : SS (MHo_told P W) some 37 [(0, aR 100), (2, aI x2), (3, aL x3), (5, aI x5)] [] G (Ho_told_l37 P W x2 x3 x5 G) := by
  exact SS.loop (σ := Int × Int × St) (fun s => [(0, aR 100), (2, aI x2), (3, aL (s.1)), (5, aI (s.2.1))]) (fun s => s.2.2) (fun s => Ho_told_s37 P W x2 s.1 s.2.1 s.2.2) (fun X37 hX37 s => s_Ho_told_s37 P W x2  X37 hX37 s.1 s.2.1 s.2.2) (x3, x5, G)
theorem s_Ho_told (P W : Int) (x1 : Int) (x2 : Int) (G : St) : SS (MHo_told P W) some 0 [(0, aR 100), (1, aI x1), (2, aI x2)] [] G (Ho_told P W x1 x2 G) := by
  refine r_aload_n 1 0 dX1_told_0 rfl rfl rfl ?_
  refine r_iload_n 2 1 dX1_told_1 rfl rfl rfl ?_
  refine r_callvI 5 (Mc := MHo_isParty P W) (o := 100) (as := [aI x1]) (st := []) dX1_told_2 rfl (c_Ho_isParty P W x1 G) lkX1_323 (cmHo_isParty P W) rfl rfl rfl (fun _ => dsC_100 P W _) nn100 rfl (Nat.le_of_ble_eq_true rfl) (Nat.le_of_ble_eq_true rfl) (fun _ => rfl) rfl (fun z1 G2 => ?_)
  refine r_if_eq 28 8 dX1_told_5 rfl rfl ?_ ?_
  · refine r_to [] [] rfl ?_
    exact s_Ho_told_b28 P W G2
  · refine r_aload_n 9 0 dX1_told_8 rfl rfl rfl ?_
    refine r_get 12 (aR 103) dX1_told_9 fkX1_122 (fun _ => dsC_100 P W _) nn100 rfl rfl ?_
    refine r_iload_n 13 1 dX1_told_12 rfl rfl rfl ?_
    refine r_aald8q 14 dX1_told_13 (fun _ _ _ => dsC_103 P W _) (fun _ _ => nn103) rfl (fun p3 hp3 => ?_)
    refine r_callvI 17 (Mc := MPa_isDone P W) (o := 1000 + 32 * p3) (as := []) (st := []) dX1_told_14 rfl (c_Pa_isDone P W p3 hp3 G2) lkX1_188 (cmPa_isDone P W) rfl rfl rfl (fun h => party_c P W hp3 h) (party_n hp3) rfl (Nat.le_of_ble_eq_true rfl) (Nat.le_of_ble_eq_true rfl) (fun _ => rfl) rfl (fun z4 G5 => ?_)
    refine r_if_eq 28 20 dX1_told_17 rfl rfl ?_ ?_
    · refine r_to [] [] rfl ?_
      exact s_Ho_told_b28 P W G5
    · refine r_aload_n 21 0 dX1_told_20 rfl rfl rfl ?_
      refine r_iload_n 22 2 dX1_told_21 rfl rfl rfl ?_
      refine r_callvI 25 (Mc := MHo_isOutput P W) (o := 100) (as := [aI x2]) (st := []) dX1_told_22 rfl (c_Ho_isOutput P W x2 G5) lkX1_241 (cmHo_isOutput P W) rfl rfl rfl (fun _ => dsC_100 P W _) nn100 rfl (Nat.le_of_ble_eq_true rfl) (Nat.le_of_ble_eq_true rfl) (fun _ => rfl) rfl (fun z6 G7 => ?_)
      refine r_if_ne 32 28 dX1_told_25 rfl rfl ?_ ?_
      · refine r_lconst 33 0 dX1_told_32 rfl rfl rfl ?_
        refine r_lstore_n 34 [(3, aL 0), (0, aR 100), (1, aI x1), (2, aI x2)] dX1_told_33 rfl rfl rfl rfl ?_
        refine r_iconst 35 0 dX1_told_34 rfl rfl ?_
        refine r_istore 37 [(5, aI 0), (3, aL 0), (0, aR 100), (1, aI x1), (2, aI x2)] dX1_told_35 rfl rfl rfl ?_
        refine r_to [2, 4, 1, 0] [(0, aR 100), (2, aI x2), (3, aL 0), (5, aI 0)] rfl ?_
        exact sl_Ho_told_37 P W x2 0 0 G7
      · refine r_to [] [] rfl ?_
        exact s_Ho_told_b28 P W G7
theorem c_Ho_told (P W : Int) (x1 : Int) (x2 : Int) (G : St) : MG (MHo_told P W) [aR 100, aI x1, aI x2] G (Ho_told P W x1 x2 G) := MG.of plX1 (Nat.le_of_ble_eq_true rfl) (s_Ho_told P W x1 x2 G)
theorem s_Ho_plainOf (P W : Int) (x1 : Int) (G : St) : SS (MHo_plainOf P W) some 0 [(0, aR 100), (1, aI x1)] [] G (Ho_plainOf x1 G) := by
  refine r_iload_n 1 1 dX1_plainOf_0 rfl rfl rfl ?_
  refine r_if_ge 10 4 dX1_plainOf_1 rfl rfl ?_ ?_
  · refine r_aload_n 11 0 dX1_plainOf_10 rfl rfl rfl ?_
    refine r_get 14 (aR 107) dX1_plainOf_11 fkX1_65 (fun _ => dsC_100 P W _) nn100 rfl rfl ?_
    refine r_iload_n 15 1 dX1_plainOf_14 rfl rfl rfl ?_
    refine r_iconst 16 2 dX1_plainOf_15 rfl rfl ?_
    refine r_idiv 17 dX1_plainOf_16 rfl ?_
    refine r_callvI 20 (Mc := MBt_get P W) (o := 107) (as := [aI (x1 / 2)]) (st := []) dX1_plainOf_17 rfl (c_Bt_get P W 107 isB_107 (x1 / 2) G) lkX1_332 (cmBt_get P W) rfl rfl rfl (fun h => isB_c P W isB_107 h) (isB_n isB_107) rfl (Nat.le_of_ble_eq_true rfl) (Nat.le_of_ble_eq_true rfl) (fun _ => rfl) rfl (fun z1 G2 => ?_)
    refine r_iload_n 21 1 dX1_plainOf_20 rfl rfl rfl ?_
    refine r_iconst 22 1 dX1_plainOf_21 rfl rfl ?_
    refine r_iand 23 dX1_plainOf_22 rfl ?_
    refine r_ixor 24 dX1_plainOf_23 rfl ?_
    exact r_ireturn dX1_plainOf_24 rfl
  · refine r_iload_n 5 1 dX1_plainOf_4 rfl rfl rfl ?_
    refine r_iconst 6 1 dX1_plainOf_5 rfl rfl ?_
    refine r_iand 7 dX1_plainOf_6 rfl ?_
    refine r_goto 24 dX1_plainOf_7 rfl ?_
    exact r_ireturn dX1_plainOf_24 rfl
theorem c_Ho_plainOf (P W : Int) (x1 : Int) (G : St) : MG (MHo_plainOf P W) [aR 100, aI x1] G (Ho_plainOf x1 G) := MG.of plX1 (Nat.le_of_ble_eq_true rfl) (s_Ho_plainOf P W x1 G)
theorem s_Ho_truth_s195 (P W : Int) (x1 : Int) (X195 : Int × Int × St → Option (Int × St)) (hX195 : ∀ s, So (MHo_truth P W) 195 [(0, aR 100), (1, aI x1), (2, aL (s.1)), (4, aI (s.2.1))] [] s.2.2 (X195 s)) (x2 : Int) (x4 : Int) (G : St) : SS (MHo_truth P W) (lk X195 some) 195 [(0, aR 100), (1, aI x1), (2, aL x2), (4, aI x4)] [] G (Ho_truth_s195 P W x1 x2 x4 G) := by
  refine r_iload 197 3 dX1_truth_195 rfl rfl ?_
  refine r_aload_n 198 0 dX1_truth_197 rfl rfl rfl ?_
  refine r_get 201 (aR 180) dX1_truth_198 fkX1_107 (fun _ => dsC_100 P W _) nn100 rfl rfl ?_
  refine r_get 204 (aR 204) dX1_truth_201 fkX1_245 (fun _ => dsC_180 P W _) nn180 rfl rfl ?_
  refine r_iload_n 205 1 dX1_truth_204 rfl rfl rfl ?_
  refine r_iald 206 dX1_truth_205 (fun _ _ _ => dsC_204 P W _) (fun _ _ => nn204) rfl ?_
  refine r_icmp_ge 243 209 dX1_truth_206 rfl rfl ?_ ?_
  · refine SS.ex ?_
    refine r_lload_n 244 2 dX1_truth_243 rfl rfl rfl ?_
    exact r_lreturn dX1_truth_244 rfl
  · refine r_lload_n 210 2 dX1_truth_209 rfl rfl rfl ?_
    refine r_aload_n 211 0 dX1_truth_210 rfl rfl rfl ?_
    refine r_aload_n 212 0 dX1_truth_211 rfl rfl rfl ?_
    refine r_get 215 (aR 180) dX1_truth_212 fkX1_107 (fun _ => dsC_100 P W _) nn100 rfl rfl ?_
    refine r_get 218 (aR 203) dX1_truth_215 fkX1_248 (fun _ => dsC_180 P W _) nn180 rfl rfl ?_
    refine r_aload_n 219 0 dX1_truth_218 rfl rfl rfl ?_
    refine r_get 222 (aI W) dX1_truth_219 fkX1_81 (fun _ => dsC_100 P W _) nn100 rfl rfl ?_
    refine r_iload_n 223 1 dX1_truth_222 rfl rfl rfl ?_
    refine r_imul 224 dX1_truth_223 rfl ?_
    refine r_iload 226 3 dX1_truth_224 rfl rfl ?_
    refine r_iadd 227 dX1_truth_226 rfl ?_
    refine r_iald 228 dX1_truth_227 (fun _ _ _ => dsC_203 P W _) (fun _ _ => nn203) rfl ?_
    refine r_callvI 231 (Mc := MHo_plainOf P W) (o := 100) (as := [aI (G 203 ((W * x1) + x4))]) (st := [aL x2]) dX1_truth_228 rfl (c_Ho_plainOf P W (G 203 ((W * x1) + x4)) G) lkX1_345 (cmHo_plainOf P W) rfl rfl rfl (fun _ => dsC_100 P W _) nn100 rfl (Nat.le_of_ble_eq_true rfl) (Nat.le_of_ble_eq_true rfl) (fun _ => rfl) rfl (fun z3 G4 => ?_)
    refine r_i2l 232 dX1_truth_231 rfl ?_
    refine r_iload 234 3 dX1_truth_232 rfl rfl ?_
    refine r_lshl 235 dX1_truth_234 rfl ?_
    refine r_lor 236 dX1_truth_235 rfl ?_
    refine r_lstore_n 237 [(2, aL (j_lor x2 (j_lsl z3 x4))), (0, aR 100), (1, aI x1), (4, aI x4)] dX1_truth_236 rfl rfl rfl rfl ?_
    refine r_iinc 240 [(4, aI (x4 + 1)), (2, aL (j_lor x2 (j_lsl z3 x4))), (0, aR 100), (1, aI x1)] 3 dX1_truth_237 rfl rfl rfl rfl ?_
    refine r_goto 195 dX1_truth_240 rfl ?_
    refine r_to [2, 3, 1, 0] [(0, aR 100), (1, aI x1), (2, aL (j_lor x2 (j_lsl z3 x4))), (4, aI (x4 + 1))] rfl ?_
    exact SS.back (hX195 (j_lor x2 (j_lsl z3 x4), x4 + 1, G4))
theorem sl_Ho_truth_195 (P W : Int) (x1 : Int) (x2 : Int) (x4 : Int) (G : St) : SS (MHo_truth P W) some 195 [(0, aR 100), (1, aI x1), (2, aL x2), (4, aI x4)] [] G (Ho_truth_l195 P W x1 x2 x4 G) := by
  exact SS.loop (σ := Int × Int × St) (fun s => [(0, aR 100), (1, aI x1), (2, aL (s.1)), (4, aI (s.2.1))]) (fun s => s.2.2) (fun s => Ho_truth_s195 P W x1 s.1 s.2.1 s.2.2) (fun X195 hX195 s => s_Ho_truth_s195 P W x1  X195 hX195 s.1 s.2.1 s.2.2) (x2, x4, G)
theorem s_Ho_truth_b181 (P W : Int) (x1 : Int) (X105 : Int × St → Option (Int × St)) (hX105 : ∀ s, So (MHo_truth P W) 105 [(0, aR 100), (1, aI x1), (2, aI (s.1))] [] s.2 (X105 s)) (x2 : Int) (s0 : Int) (s1 : Int) (G : St) : SS (MHo_truth P W) (lk X105 some) 181 [(0, aR 100), (1, aI x1), (2, aI x2)] [aI s0, aI s1, aR 107] G (Ho_truth_b181 P W x1 x2 s0 s1 G) := by
  refine r_callvV 184 (Mc := MBt_set P W) (o := 107) (as := [aI s1, aI s0]) (st := []) dX1_truth_181 rfl (c_Bt_set P W 107 isB_107 s1 s0 G) lkX1_268 (cmBt_set P W) rfl rfl rfl (fun h => isB_c P W isB_107 h) (isB_n isB_107) rfl (Nat.le_of_ble_eq_true rfl) (Nat.le_of_ble_eq_true rfl) (fun _ => rfl) rfl (fun z9 G10 => ?_)
  refine r_iinc 187 [(2, aI (x2 + 1)), (0, aR 100), (1, aI x1)] 2 dX1_truth_184 rfl rfl rfl rfl ?_
  refine r_goto 105 dX1_truth_187 rfl ?_
  refine r_to [1, 2, 0] [(0, aR 100), (1, aI x1), (2, aI (x2 + 1))] rfl ?_
  exact SS.back (hX105 (x2 + 1, G10))
theorem s_Ho_truth_s105 (P W : Int) (x1 : Int) (X105 : Int × St → Option (Int × St)) (hX105 : ∀ s, So (MHo_truth P W) 105 [(0, aR 100), (1, aI x1), (2, aI (s.1))] [] s.2 (X105 s)) (x2 : Int) (G : St) : SS (MHo_truth P W) (lk X105 some) 105 [(0, aR 100), (1, aI x1), (2, aI x2)] [] G (Ho_truth_s105 P W x1 x2 G) := by
  refine r_iload_n 106 2 dX1_truth_105 rfl rfl rfl ?_
  refine r_aload_n 107 0 dX1_truth_106 rfl rfl rfl ?_
  refine r_get 110 (aR 140) dX1_truth_107 fkX1_40 (fun _ => dsC_100 P W _) nn100 rfl rfl ?_
  refine r_get 113 (aI (G 140 4)) dX1_truth_110 fkX1_191 (fun _ => dsC_140 P W _) nn140 rfl rfl ?_
  refine r_icmp_ge 190 116 dX1_truth_113 rfl rfl ?_ ?_
  · refine SS.ex ?_
    refine r_lconst 191 0 dX1_truth_190 rfl rfl rfl ?_
    refine r_lstore_n 192 [(2, aL 0), (0, aR 100), (1, aI x1)] dX1_truth_191 rfl rfl rfl rfl ?_
    refine r_iconst 193 0 dX1_truth_192 rfl rfl ?_
    refine r_istore 195 [(4, aI 0), (2, aL 0), (0, aR 100), (1, aI x1)] dX1_truth_193 rfl rfl rfl ?_
    refine r_to [2, 3, 1, 0] [(0, aR 100), (1, aI x1), (2, aL 0), (4, aI 0)] rfl ?_
    exact sl_Ho_truth_195 P W x1 0 0 G
  · refine r_aload_n 117 0 dX1_truth_116 rfl rfl rfl ?_
    refine r_aload_n 118 0 dX1_truth_117 rfl rfl rfl ?_
    refine r_get 121 (aR 140) dX1_truth_118 fkX1_40 (fun _ => dsC_100 P W _) nn100 rfl rfl ?_
    refine r_get 124 (aR 141) dX1_truth_121 fkX1_235 (fun _ => dsC_140 P W _) nn140 rfl rfl ?_
    refine r_iload_n 125 2 dX1_truth_124 rfl rfl rfl ?_
    refine r_iald 126 dX1_truth_125 (fun _ _ _ => dsC_141 P W _) (fun _ _ => nn141) rfl ?_
    refine r_callvI 129 (Mc := MHo_plainOf P W) (o := 100) (as := [aI (G 141 x2)]) (st := []) dX1_truth_126 rfl (c_Ho_plainOf P W (G 141 x2) G) lkX1_345 (cmHo_plainOf P W) rfl rfl rfl (fun _ => dsC_100 P W _) nn100 rfl (Nat.le_of_ble_eq_true rfl) (Nat.le_of_ble_eq_true rfl) (fun _ => rfl) rfl (fun z5 G6 => ?_)
    refine r_istore_n 130 [(3, aI z5), (0, aR 100), (1, aI x1), (2, aI x2)] dX1_truth_129 rfl rfl rfl rfl ?_
    refine r_aload_n 131 1 dX1_truth_130 rfl rfl rfl ?_
    refine r_aload_n 132 1 dX1_truth_131 rfl rfl rfl ?_
    refine r_get 135 (aR 140) dX1_truth_132 fkX1_40 (fun _ => dsC_100 P W _) nn100 rfl rfl ?_
    refine r_get 138 (aR 142) dX1_truth_135 fkX1_238 (fun _ => dsC_140 P W _) nn140 rfl rfl ?_
    refine r_iload_n 139 3 dX1_truth_138 rfl rfl rfl ?_
    refine r_iald 140 dX1_truth_139 (fun _ _ _ => dsC_142 P W _) (fun _ _ => nn142) rfl ?_
    refine r_callvI 143 (Mc := MHo_plainOf P W) (o := 100) (as := [aI (G6 142 x2)]) (st := []) dX1_truth_140 rfl (c_Ho_plainOf P W (G6 142 x2) G6) lkX1_345 (cmHo_plainOf P W) rfl rfl rfl (fun _ => dsC_100 P W _) nn100 rfl (Nat.le_of_ble_eq_true rfl) (Nat.le_of_ble_eq_true rfl) (fun _ => rfl) rfl (fun z7 G8 => ?_)
    refine r_istore 145 [(4, aI z7), (3, aI z5), (0, aR 100), (1, aI x1), (2, aI x2)] dX1_truth_143 rfl rfl rfl ?_
    refine r_aload_n 146 2 dX1_truth_145 rfl rfl rfl ?_
    refine r_get 149 (aR 107) dX1_truth_146 fkX1_65 (fun _ => dsC_100 P W _) nn100 rfl rfl ?_
    refine r_aload_n 150 2 dX1_truth_149 rfl rfl rfl ?_
    refine r_get 153 (aR 140) dX1_truth_150 fkX1_40 (fun _ => dsC_100 P W _) nn100 rfl rfl ?_
    refine r_get 156 (aI (G8 140 6)) dX1_truth_153 fkX1_200 (fun _ => dsC_140 P W _) nn140 rfl rfl ?_
    refine r_iload_n 157 4 dX1_truth_156 rfl rfl rfl ?_
    refine r_iadd 158 dX1_truth_157 rfl ?_
    refine r_aload_n 159 2 dX1_truth_158 rfl rfl rfl ?_
    refine r_get 162 (aR 140) dX1_truth_159 fkX1_40 (fun _ => dsC_100 P W _) nn100 rfl rfl ?_
    refine r_get 165 (aR 144) dX1_truth_162 fkX1_227 (fun _ => dsC_140 P W _) nn140 rfl rfl ?_
    refine r_iload_n 166 4 dX1_truth_165 rfl rfl rfl ?_
    refine r_zald 167 dX1_truth_166 (fun _ _ _ => dsC_144 P W _) (fun _ _ => nn144) rfl ?_
    refine r_if_eq 177 170 dX1_truth_167 rfl rfl ?_ ?_
    · refine r_iload_n 178 1 dX1_truth_177 rfl rfl rfl ?_
      refine r_iload 180 0 dX1_truth_178 rfl rfl ?_
      refine r_ixor 181 dX1_truth_180 rfl ?_
      refine r_to [2, 3, 4] [(0, aR 100), (1, aI x1), (2, aI x2)] rfl ?_
      exact s_Ho_truth_b181 P W x1 X105 hX105 x2 (j_xo z5 z7) ((G8 140 6) + x2) G8
    · refine r_iload_n 171 1 dX1_truth_170 rfl rfl rfl ?_
      refine r_iload 173 0 dX1_truth_171 rfl rfl ?_
      refine r_iand 174 dX1_truth_173 rfl ?_
      refine r_goto 181 dX1_truth_174 rfl ?_
      refine r_to [2, 3, 4] [(0, aR 100), (1, aI x1), (2, aI x2)] rfl ?_
      exact s_Ho_truth_b181 P W x1 X105 hX105 x2 (j_an z5 z7) ((G8 140 6) + x2) G8
theorem sl_Ho_truth_105 (P W : Int) (x1 : Int) (x2 : Int) (G : St) : SS (MHo_truth P W) some 105 [(0, aR 100), (1, aI x1), (2, aI x2)] [] G (Ho_truth_l105 P W x1 x2 G) := by
  exact SS.loop (σ := Int × St) (fun s => [(0, aR 100), (1, aI x1), (2, aI (s.1))]) (fun s => s.2) (fun s => Ho_truth_s105 P W x1 s.1 s.2) (fun X105 hX105 s => s_Ho_truth_s105 P W x1  X105 hX105 s.1 s.2) (x2, G)
theorem s_Ho_truth_b88 (P W : Int) (x1 : Int) (X14 : Int × St → Option (Int × St)) (hX14 : ∀ s, So (MHo_truth P W) 14 [(0, aR 100), (1, aI x1), (2, aI (s.1))] [] s.2 (X14 s)) (x2 : Int) (X27 : Int × St → Option (Int × St)) (hX27 : ∀ s, So (MHo_truth P W) 27 [(0, aR 100), (1, aI x1), (2, aI x2), (3, aI (s.1))] [] s.2 (X27 s)) (x3 : Int) (s0 : Int) (s1 : Int) (G : St) : SS (MHo_truth P W) (lk X27 (lk X14 some)) 88 [(0, aR 100), (1, aI x1), (2, aI x2), (3, aI x3)] [aI s0, aI s1, aR 107] G (Ho_truth_b88 P W x1 x2 x3 s0 s1 G) := by
  refine r_callvV 91 (Mc := MBt_set P W) (o := 107) (as := [aI s1, aI s0]) (st := []) dX1_truth_88 rfl (c_Bt_set P W 107 isB_107 s1 s0 G) lkX1_268 (cmBt_set P W) rfl rfl rfl (fun h => isB_c P W isB_107 h) (isB_n isB_107) rfl (Nat.le_of_ble_eq_true rfl) (Nat.le_of_ble_eq_true rfl) (fun _ => rfl) rfl (fun z11 G12 => ?_)
  refine r_iinc 94 [(3, aI (x3 + 1)), (0, aR 100), (1, aI x1), (2, aI x2)] 3 dX1_truth_91 rfl rfl rfl rfl ?_
  refine r_goto 27 dX1_truth_94 rfl ?_
  refine r_to [1, 2, 3, 0] [(0, aR 100), (1, aI x1), (2, aI x2), (3, aI (x3 + 1))] rfl ?_
  exact SS.back (hX27 (x3 + 1, G12))
theorem s_Ho_truth_s27 (P W : Int) (x1 : Int) (X14 : Int × St → Option (Int × St)) (hX14 : ∀ s, So (MHo_truth P W) 14 [(0, aR 100), (1, aI x1), (2, aI (s.1))] [] s.2 (X14 s)) (x2 : Int) (X27 : Int × St → Option (Int × St)) (hX27 : ∀ s, So (MHo_truth P W) 27 [(0, aR 100), (1, aI x1), (2, aI x2), (3, aI (s.1))] [] s.2 (X27 s)) (x3 : Int) (G : St) : SS (MHo_truth P W) (lk X27 (lk X14 some)) 27 [(0, aR 100), (1, aI x1), (2, aI x2), (3, aI x3)] [] G (Ho_truth_s27 P W x1 x2 x3 G) := by
  refine r_iload_n 28 3 dX1_truth_27 rfl rfl rfl ?_
  refine r_aload_n 29 0 dX1_truth_28 rfl rfl rfl ?_
  refine r_get 32 (aR 180) dX1_truth_29 fkX1_107 (fun _ => dsC_100 P W _) nn100 rfl rfl ?_
  refine r_get 35 (aR 183) dX1_truth_32 fkX1_259 (fun _ => dsC_180 P W _) nn180 rfl rfl ?_
  refine r_iload_n 36 2 dX1_truth_35 rfl rfl rfl ?_
  refine r_iald 37 dX1_truth_36 (fun _ _ _ => dsC_183 P W _) (fun _ _ => nn183) rfl ?_
  refine r_icmp_ge 97 40 dX1_truth_37 rfl rfl ?_ ?_
  · refine SS.ex ?_
    refine r_iinc 100 [(2, aI (x2 + 1)), (0, aR 100), (1, aI x1), (3, aI x3)] 2 dX1_truth_97 rfl rfl rfl rfl ?_
    refine r_goto 14 dX1_truth_100 rfl ?_
    refine r_to [1, 2, 0] [(0, aR 100), (1, aI x1), (2, aI (x2 + 1))] rfl ?_
    exact SS.back (hX14 (x2 + 1, G))
  · refine r_aload_n 41 0 dX1_truth_40 rfl rfl rfl ?_
    refine r_get 44 (aR 180) dX1_truth_41 fkX1_107 (fun _ => dsC_100 P W _) nn100 rfl rfl ?_
    refine r_get 47 (aR 182) dX1_truth_44 fkX1_266 (fun _ => dsC_180 P W _) nn180 rfl rfl ?_
    refine r_iload_n 48 2 dX1_truth_47 rfl rfl rfl ?_
    refine r_iald 49 dX1_truth_48 (fun _ _ _ => dsC_182 P W _) (fun _ _ => nn182) rfl ?_
    refine r_iload_n 50 3 dX1_truth_49 rfl rfl rfl ?_
    refine r_iadd 51 dX1_truth_50 rfl ?_
    refine r_istore 53 [(4, aI ((G 182 x2) + x3)), (0, aR 100), (1, aI x1), (2, aI x2), (3, aI x3)] dX1_truth_51 rfl rfl rfl ?_
    refine r_aload_n 54 1 dX1_truth_53 rfl rfl rfl ?_
    refine r_get 57 (aR 107) dX1_truth_54 fkX1_65 (fun _ => dsC_100 P W _) nn100 rfl rfl ?_
    refine r_iload 59 0 dX1_truth_57 rfl rfl ?_
    refine r_aload_n 60 1 dX1_truth_59 rfl rfl rfl ?_
    refine r_get 63 (aI (G 100 19)) dX1_truth_60 fkX1_154 (fun _ => dsC_100 P W _) nn100 rfl rfl ?_
    refine r_if_eq 78 66 dX1_truth_63 rfl rfl ?_ ?_
    · refine r_aload_n 79 1 dX1_truth_78 rfl rfl rfl ?_
      refine r_get 82 (aR 104) dX1_truth_79 fkX1_51 (fun _ => dsC_100 P W _) nn100 rfl rfl ?_
      refine r_iload_n 83 3 dX1_truth_82 rfl rfl rfl ?_
      refine r_iald 84 dX1_truth_83 (fun _ _ _ => dsC_104 P W _) (fun _ _ => nn104) rfl ?_
      refine r_iload_n 85 4 dX1_truth_84 rfl rfl rfl ?_
      refine r_ishr 86 dX1_truth_85 rfl ?_
      refine r_iconst 87 1 dX1_truth_86 rfl rfl ?_
      refine r_iand 88 dX1_truth_87 rfl ?_
      refine r_to [1, 2, 3, 4] [(0, aR 100), (1, aI x1), (2, aI x2), (3, aI x3)] rfl ?_
      exact s_Ho_truth_b88 P W x1 X14 hX14 x2 X27 hX27 x3 (j_an (j_sr (G 104 x2) x3) 1) ((G 182 x2) + x3) G
    · refine r_aload_n 67 1 dX1_truth_66 rfl rfl rfl ?_
      refine r_get 70 (aR 105) dX1_truth_67 fkX1_60 (fun _ => dsC_100 P W _) nn100 rfl rfl ?_
      refine r_iload 72 0 dX1_truth_70 rfl rfl ?_
      refine r_callvI 75 (Mc := MBt_get P W) (o := 105) (as := [aI ((G 182 x2) + x3)]) (st := [aI ((G 182 x2) + x3), aR 107]) dX1_truth_72 rfl (c_Bt_get P W 105 isB_105 ((G 182 x2) + x3) G) lkX1_332 (cmBt_get P W) rfl rfl rfl (fun h => isB_c P W isB_105 h) (isB_n isB_105) rfl (Nat.le_of_ble_eq_true rfl) (Nat.le_of_ble_eq_true rfl) (fun _ => rfl) rfl (fun z13 G14 => ?_)
      refine r_goto 88 dX1_truth_75 rfl ?_
      refine r_to [1, 2, 3, 4] [(0, aR 100), (1, aI x1), (2, aI x2), (3, aI x3)] rfl ?_
      exact s_Ho_truth_b88 P W x1 X14 hX14 x2 X27 hX27 x3 z13 ((G 182 x2) + x3) G14
theorem sl_Ho_truth_27 (P W : Int) (x1 : Int) (X14 : Int × St → Option (Int × St)) (hX14 : ∀ s, So (MHo_truth P W) 14 [(0, aR 100), (1, aI x1), (2, aI (s.1))] [] s.2 (X14 s)) (x2 : Int) (x3 : Int) (G : St) : SS (MHo_truth P W) (lk X14 some) 27 [(0, aR 100), (1, aI x1), (2, aI x2), (3, aI x3)] [] G (Ho_truth_l27 P W x1 x2 x3 G) := by
  exact SS.loop (σ := Int × St) (fun s => [(0, aR 100), (1, aI x1), (2, aI x2), (3, aI (s.1))]) (fun s => s.2) (fun s => Ho_truth_s27 P W x1 x2 s.1 s.2) (fun X27 hX27 s => s_Ho_truth_s27 P W x1 X14 hX14 x2  X27 hX27 s.1 s.2) (x3, G)
theorem s_Ho_truth_s14 (P W : Int) (x1 : Int) (X14 : Int × St → Option (Int × St)) (hX14 : ∀ s, So (MHo_truth P W) 14 [(0, aR 100), (1, aI x1), (2, aI (s.1))] [] s.2 (X14 s)) (x2 : Int) (G : St) : SS (MHo_truth P W) (lk X14 some) 14 [(0, aR 100), (1, aI x1), (2, aI x2)] [] G (Ho_truth_s14 P W x1 x2 G) := by
  refine r_iload_n 15 2 dX1_truth_14 rfl rfl rfl ?_
  refine r_aload_n 16 0 dX1_truth_15 rfl rfl rfl ?_
  refine r_get 19 (aR 180) dX1_truth_16 fkX1_107 (fun _ => dsC_100 P W _) nn100 rfl rfl ?_
  refine r_get 22 (aI (G 180 13)) dX1_truth_19 fkX1_203 (fun _ => dsC_180 P W _) nn180 rfl rfl ?_
  refine r_icmp_ge 103 25 dX1_truth_22 rfl rfl ?_ ?_
  · refine SS.ex ?_
    refine r_iconst 104 0 dX1_truth_103 rfl rfl ?_
    refine r_istore_n 105 [(2, aI 0), (0, aR 100), (1, aI x1)] dX1_truth_104 rfl rfl rfl rfl ?_
    refine r_to [1, 2, 0] [(0, aR 100), (1, aI x1), (2, aI 0)] rfl ?_
    exact sl_Ho_truth_105 P W x1 0 G
  · refine r_iconst 26 0 dX1_truth_25 rfl rfl ?_
    refine r_istore_n 27 [(3, aI 0), (0, aR 100), (1, aI x1), (2, aI x2)] dX1_truth_26 rfl rfl rfl rfl ?_
    refine r_to [1, 2, 3, 0] [(0, aR 100), (1, aI x1), (2, aI x2), (3, aI 0)] rfl ?_
    exact sl_Ho_truth_27 P W x1 X14 hX14 x2 0 G
theorem sl_Ho_truth_14 (P W : Int) (x1 : Int) (x2 : Int) (G : St) : SS (MHo_truth P W) some 14 [(0, aR 100), (1, aI x1), (2, aI x2)] [] G (Ho_truth_l14 P W x1 x2 G) := by
  exact SS.loop (σ := Int × St) (fun s => [(0, aR 100), (1, aI x1), (2, aI (s.1))]) (fun s => s.2) (fun s => Ho_truth_s14 P W x1 s.1 s.2) (fun X14 hX14 s => s_Ho_truth_s14 P W x1  X14 hX14 s.1 s.2) (x2, G)
theorem s_Ho_truth (P W : Int) (x1 : Int) (G : St) : SS (MHo_truth P W) some 0 [(0, aR 100), (1, aI x1)] [] G (Ho_truth P W x1 G) := by
  refine r_aload_n 1 0 dX1_truth_0 rfl rfl rfl ?_
  refine r_iload_n 2 1 dX1_truth_1 rfl rfl rfl ?_
  refine r_callvI 5 (Mc := MHo_isOutput P W) (o := 100) (as := [aI x1]) (st := []) dX1_truth_2 rfl (c_Ho_isOutput P W x1 G) lkX1_241 (cmHo_isOutput P W) rfl rfl rfl (fun _ => dsC_100 P W _) nn100 rfl (Nat.le_of_ble_eq_true rfl) (Nat.le_of_ble_eq_true rfl) (fun _ => rfl) rfl (fun z1 G2 => ?_)
  refine r_if_ne 12 8 dX1_truth_5 rfl rfl ?_ ?_
  · refine r_iconst 13 0 dX1_truth_12 rfl rfl ?_
    refine r_istore_n 14 [(2, aI 0), (0, aR 100), (1, aI x1)] dX1_truth_13 rfl rfl rfl rfl ?_
    refine r_to [1, 2, 0] [(0, aR 100), (1, aI x1), (2, aI 0)] rfl ?_
    exact sl_Ho_truth_14 P W x1 0 G2
  · refine r_ldc2 11 (-1) dX1_truth_8 q1660 (by decide) rfl rfl ?_
    exact r_lreturn dX1_truth_11 rfl
theorem c_Ho_truth (P W : Int) (x1 : Int) (G : St) : MG (MHo_truth P W) [aR 100, aI x1] G (Ho_truth P W x1 G) := MG.of plX1 (Nat.le_of_ble_eq_true rfl) (s_Ho_truth P W x1 G)
