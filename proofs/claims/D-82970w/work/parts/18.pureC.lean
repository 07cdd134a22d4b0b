set_option maxRecDepth 100000
noncomputable def Ho_feed_s3 (x1 : Int) (x2 : Int) (x3 : Int) (x4 : Int) (x5 : Int) (x6 : Int) (G : St) : Option ((Int × St) ⊕ (Int × St)) :=
  if x6 < 4 then (ckI (8 * x6) <| ckI (24 - (8 * x6)) <| ckB x6 20 <| ckB ((j_b8 (j_sr x1 (24 - (8 * x6)))) + 128) 256 <| tk (up G 101 x6 (j_b8 (j_sr x1 (24 - (8 * x6))))) fun G1 =>
  ckI (4 + x6) <| ckB (4 + x6) 20 <| ckB ((j_b8 (j_sr x2 (24 - (8 * x6)))) + 128) 256 <| tk (up G1 101 (4 + x6) (j_b8 (j_sr x2 (24 - (8 * x6))))) fun G2 =>
  ckI (8 + x6) <| ckB (8 + x6) 20 <| ckB ((j_b8 (j_sr x3 (24 - (8 * x6)))) + 128) 256 <| tk (up G2 101 (8 + x6) (j_b8 (j_sr x3 (24 - (8 * x6))))) fun G3 =>
  ckI (12 + x6) <| ckB (12 + x6) 20 <| ckB ((j_b8 (j_sr x4 (24 - (8 * x6)))) + 128) 256 <| tk (up G3 101 (12 + x6) (j_b8 (j_sr x4 (24 - (8 * x6))))) fun G4 =>
  ckI (16 + x6) <| ckB (16 + x6) 20 <| ckB ((j_b8 (j_sr x5 (24 - (8 * x6)))) + 128) 256 <| tk (up G4 101 (16 + x6) (j_b8 (j_sr x5 (24 - (8 * x6))))) fun G5 =>
  ckI (x6 + 1) <| some (Sum.inl (x6 + 1, G5)))
  else (ex (some (0, G)))
noncomputable def Ho_feed_l3 (x1 : Int) (x2 : Int) (x3 : Int) (x4 : Int) (x5 : Int) (x6 : Int) (G : St) : Option (Int × St) :=
  wh (fun s => Ho_feed_s3 x1 x2 x3 x4 x5 s.1 s.2) (x6, G)
theorem Ho_feed_l3_eq (x1 : Int) (x2 : Int) (x3 : Int) (x4 : Int) (x5 : Int) (x6 : Int) (G : St) : Ho_feed_l3 x1 x2 x3 x4 x5 x6 G = (Ho_feed_s3 x1 x2 x3 x4 x5 x6 G).bind (lk (fun s => Ho_feed_l3 x1 x2 x3 x4 x5 s.1 s.2) some) := by
  exact wh_eq _ _
noncomputable def Ho_feed (x1 : Int) (x2 : Int) (x3 : Int) (x4 : Int) (x5 : Int) (G : St) : Option (Int × St) :=
  Ho_feed_l3 x1 x2 x3 x4 x5 0 G
noncomputable def Ho_end_s112 (x2 : Int) (G : St) : Option ((Int × St) ⊕ (Int × St)) :=
  if x2 < 20 then (ckB x2 20 <| ckB (0 + 128) 256 <| tk (up G 101 x2 0) fun G3 =>
  ckI (x2 + 1) <| some (Sum.inl (x2 + 1, G3)))
  else (ex (some (G 100 4, G)))
noncomputable def Ho_end_l112 (x2 : Int) (G : St) : Option (Int × St) :=
  wh (fun s => Ho_end_s112 s.1 s.2) (x2, G)
theorem Ho_end_l112_eq (x2 : Int) (G : St) : Ho_end_l112 x2 G = (Ho_end_s112 x2 G).bind (lk (fun s => Ho_end_l112 s.1 s.2) some) := by
  exact wh_eq _ _
noncomputable def Ho_end_b77 (x1 : Int) (x2 : Int) (G : St) : Option ((Int × St) ⊕ (Int × St)) :=
  ckI (x2 + 1) <| some (Sum.inl (x2 + 1, G))
noncomputable def Ho_end_b53 (x1 : Int) (x2 : Int) (G : St) : Option ((Int × St) ⊕ (Int × St)) :=
  ckB x2 20 <| if (G 101 x2) = 9 then (Ho_end_b77 x1 x2 G)
  else (ckB x2 20 <| if (G 101 x2) = 10 then (Ho_end_b77 x1 x2 G)
  else (ex (some ((-1), G))))
noncomputable def Ho_end_s26 (x1 : Int) (x2 : Int) (G : St) : Option ((Int × St) ⊕ (Int × St)) :=
  if x2 < x1 then (ckB x2 20 <| if (G 101 x2) < 32 then (Ho_end_b53 x1 x2 G)
  else (ckB x2 20 <| if 126 < (G 101 x2) then (Ho_end_b53 x1 x2 G)
  else (Ho_end_b77 x1 x2 G)))
  else (ex (ckA 0 x1 20 <| ckA (G 100 4) x1 4000 <| tk (acp G 101 0 102 (G 100 4) x1) fun G1 =>
  ckI ((G1 100 4) + x1) <| tk (up G1 100 4 ((G1 100 4) + x1)) fun G2 =>
  Ho_end_l112 0 G2))
noncomputable def Ho_end_l26 (x1 : Int) (x2 : Int) (G : St) : Option (Int × St) :=
  wh (fun s => Ho_end_s26 x1 s.1 s.2) (x2, G)
theorem Ho_end_l26_eq (x1 : Int) (x2 : Int) (G : St) : Ho_end_l26 x1 x2 G = (Ho_end_s26 x1 x2 G).bind (lk (fun s => Ho_end_l26 x1 s.1 s.2) some) := by
  exact wh_eq _ _
noncomputable def Ho_end (x1 : Int) (G : St) : Option (Int × St) :=
  if x1 < 0 then (some ((-1), G))
  else (if 20 < x1 then (some ((-1), G))
  else (ckI ((G 100 4) + x1) <| if 4000 < ((G 100 4) + x1) then (some ((-1), G))
  else (Ho_end_l26 x1 0 G)))
noncomputable def Bd_constant_b32 (P W : Int) (x2 : Int) (x4 : Int) (s0 : Int) (s1 : Int) (G : St) : Option ((Int × St) ⊕ (Int × St)) :=
  ckB s1 W <| tk (up G 205 s1 s0) fun G1 =>
  ckI (x4 + 1) <| some (Sum.inl (x4 + 1, G1))
noncomputable def Bd_constant_s3 (P W : Int) (x2 : Int) (x4 : Int) (G : St) : Option ((Int × St) ⊕ (Int × St)) :=
  if x4 < W then (Bd_constant_b32 P W x2 x4 (if (j_lan (j_lsr x2 x4) 1) = 1 then (-1) else (-2)) x4 G)
  else (ex (some (0, G)))
noncomputable def Bd_constant_l3 (P W : Int) (x2 : Int) (x4 : Int) (G : St) : Option (Int × St) :=
  wh (fun s => Bd_constant_s3 P W x2 s.1 s.2) (x4, G)
theorem Bd_constant_l3_eq (P W : Int) (x2 : Int) (x4 : Int) (G : St) : Bd_constant_l3 P W x2 x4 G = (Bd_constant_s3 P W x2 x4 G).bind (lk (fun s => Bd_constant_l3 P W x2 s.1 s.2) some) := by
  exact wh_eq _ _
noncomputable def Bd_constant (P W : Int) (x2 : Int) (G : St) : Option (Int × St) :=
  Bd_constant_l3 P W x2 0 G
noncomputable def Ft_set (x1 : Int) (x2 : Int) (G : St) : Option (Int × St) :=
  if (G 130 0) = 0 then (tk (up G 130 0 x1) fun G1 =>
  tk (up G1 130 1 x2) fun G2 =>
  some (0, G2))
  else (some (0, G))
noncomputable def Bd_count_b22 (G : St) : Option (Int × St) :=
  ckI ((G 180 8) + 1) <| tk (up G 180 8 ((G 180 8) + 1)) fun G1 =>
  some (0, G1)
noncomputable def Bd_count (G : St) : Option (Int × St) :=
  if (G 180 8) = 100000 then (bd (Ft_set 8 (G 180 9) G) fun _ G3 =>
  Bd_count_b22 G3)
  else (Bd_count_b22 G)
noncomputable def Bd_bits (P W : Int) (x1 : Int) (G : St) : Option (Int × St) :=
  some ((if x1 = 1 then 1 else W), G)
noncomputable def Bd_inputWord_s2 (P W : Int) (x1 : Int) (x2 : Int) (x3 : Int) (G : St) : Option ((Int × St) ⊕ (Int × St)) :=
  if x3 < x2 then (ckB x1 256 <| ckI ((G 182 x1) + x3) <| ckI (2 * ((G 182 x1) + x3)) <| ckB x3 W <| tk (up G 205 x3 (2 * ((G 182 x1) + x3))) fun G1 =>
  ckI (x3 + 1) <| some (Sum.inl (x3 + 1, G1)))
  else (ex (some (0, G)))
noncomputable def Bd_inputWord_l2 (P W : Int) (x1 : Int) (x2 : Int) (x3 : Int) (G : St) : Option (Int × St) :=
  wh (fun s => Bd_inputWord_s2 P W x1 x2 s.1 s.2) (x3, G)
theorem Bd_inputWord_l2_eq (P W : Int) (x1 : Int) (x2 : Int) (x3 : Int) (G : St) : Bd_inputWord_l2 P W x1 x2 x3 G = (Bd_inputWord_s2 P W x1 x2 x3 G).bind (lk (fun s => Bd_inputWord_l2 P W x1 x2 s.1 s.2) some) := by
  exact wh_eq _ _
noncomputable def Bd_inputWord (P W : Int) (x1 : Int) (x2 : Int) (G : St) : Option (Int × St) :=
  Bd_inputWord_l2 P W x1 x2 0 G
noncomputable def Bd_fetch (P W : Int) (x1 : Int) (x2 : Int) (x3 : Int) (G : St) : Option (Int × St) :=
  if x1 = 0 then (ckI (W * x2) <| ckA (W * x2) x3 (W * 256) <| ckA 0 x3 W <| tk (acp G 185 (W * x2) 205 0 x3) fun G1 =>
  some (0, G1))
  else (bd (Bd_inputWord P W x2 x3 G) fun _ G3 =>
  some (0, G3))
noncomputable def Ci_levelOf (x1 : Int) (G : St) : Option (Int × St) :=
  ckI (2 * (G 140 6)) <| if x1 < (2 * (G 140 6)) then (some (0, G))
  else (ckD x1 2 <| ckI ((x1 / 2) - (G 140 6)) <| ckB ((x1 / 2) - (G 140 6)) 40000 <| some (G 143 ((x1 / 2) - (G 140 6)), G))
noncomputable def Ci_gate_b113 (x4 : Int) (s0 : Int) (s1 : Int) (G : St) : Option (Int × St) :=
  ckI (s1 + s0) <| tk (up G 140 5 (s1 + s0)) fun G10 =>
  tk (up G10 140 7 (if (G10 140 7) < x4 then x4 else (G10 140 7))) fun G11 =>
  ckI ((G11 140 4) + 1) <| tk (up G11 140 4 ((G11 140 4) + 1)) fun G12 =>
  ckI ((G12 140 6) + (G12 140 4)) <| ckI (((G12 140 6) + (G12 140 4)) - 1) <| ckI (2 * (((G12 140 6) + (G12 140 4)) - 1)) <| some (2 * (((G12 140 6) + (G12 140 4)) - 1), G12)
noncomputable def Ci_gate_b47 (x1 : Int) (x2 : Int) (x3 : Int) (x4 : Int) (G : St) : Option (Int × St) :=
  if (G 140 8) = 0 then (ckB (G 140 4) 40000 <| tk (up G 141 (G 140 4) x2) fun G6 =>
  ckB (G6 140 4) 40000 <| tk (up G6 142 (G6 140 4) x3) fun G7 =>
  ckB (G7 140 4) 40000 <| ckB x1 2 <| tk (up G7 144 (G7 140 4) x1) fun G8 =>
  ckB (G8 140 4) 40000 <| ckB ((j_s16 x4) + 32768) 65536 <| tk (up G8 143 (G8 140 4) (j_s16 x4)) fun G9 =>
  Ci_gate_b113 x4 (if x1 = 0 then 0 else 1) (G9 140 5) G9)
  else (some ((-2), G))
noncomputable def Ci_gate_b42 (x1 : Int) (x2 : Int) (x3 : Int) (x4 : Int) (G : St) : Option (Int × St) :=
  ckB 1 2 <| tk (up G 140 8 1) fun G5 =>
  Ci_gate_b47 x1 x2 x3 x4 G5
noncomputable def Ci_gate_b22 (x1 : Int) (x2 : Int) (x3 : Int) (s0 : Int) (s1 : Int) (G : St) : Option (Int × St) :=
  ckI (s1 + s0) <| if (G 140 4) = 40000 then (Ci_gate_b42 x1 x2 x3 (s1 + s0) G)
  else (if 2000 < (s1 + s0) then (Ci_gate_b42 x1 x2 x3 (s1 + s0) G)
  else (Ci_gate_b47 x1 x2 x3 (s1 + s0) G))
noncomputable def Ci_gate (x1 : Int) (x2 : Int) (x3 : Int) (G : St) : Option (Int × St) :=
  bd (Ci_levelOf x2 G) fun z1 G2 =>
  bd (Ci_levelOf x3 G2) fun z3 G4 =>
  Ci_gate_b22 x1 x2 x3 (if x1 = 0 then 0 else 1) (if z1 < z3 then z3 else z1) G4
noncomputable def Ci_and_b8 (x1 : Int) (x2 : Int) (G : St) : Option (Int × St) :=
  some ((if x1 = (-2) then (-2) else (if x2 = (-2) then (-2) else (if x1 = (-1) then x2 else x1))), G)
noncomputable def Ci_and (x1 : Int) (x2 : Int) (G : St) : Option (Int × St) :=
  if x1 < 0 then (Ci_and_b8 x1 x2 G)
  else (if x2 < 0 then (Ci_and_b8 x1 x2 G)
  else (ckD x1 2 <| ckD x2 2 <| if (x1 / 2) = (x2 / 2) then (some ((if x1 = x2 then x1 else (-2)), G))
  else (bd (Ci_gate 1 x1 x2 G) fun z1 G2 =>
  some (z1, G2))))
noncomputable def Ci_xor_b8 (x1 : Int) (x2 : Int) (G : St) : Option (Int × St) :=
  if x1 < 0 then (some (j_xo x2 (j_an x1 1), G))
  else (some (j_xo x1 (j_an x2 1), G))
noncomputable def Ci_xor (x1 : Int) (x2 : Int) (G : St) : Option (Int × St) :=
  if x1 < 0 then (Ci_xor_b8 x1 x2 G)
  else (if x2 < 0 then (Ci_xor_b8 x1 x2 G)
  else (ckD x1 2 <| ckD x2 2 <| if (x1 / 2) = (x2 / 2) then (some ((if x1 = x2 then (-2) else (-1)), G))
  else (bd (Ci_gate 0 (j_an x1 (-2)) (j_an x2 (-2)) G) fun z1 G2 =>
  some (j_xo z1 (j_an (j_xo x1 x2) 1), G2))))
noncomputable def Wo_equal_b116 (P W : Int) (x6 : Int) (x7 : Int) (x8 : Int) (s0 : Int) (s1 : Int) (G : St) : Option ((Int × Int × St) ⊕ ((Int × St) ⊕ (Int × St))) :=
  ckB s1 40 <| tk (up G 211 s1 s0) fun G1 =>
  ckI (x7 + 1) <| ckI (x8 + 2) <| some (Sum.inl (x7 + 1, x8 + 2, G1))
noncomputable def Wo_equal_s61 (P W : Int) (x6 : Int) (x7 : Int) (x8 : Int) (G : St) : Option ((Int × Int × St) ⊕ ((Int × St) ⊕ (Int × St))) :=
  if x8 < x6 then (ckI (x8 + 1) <| if (x8 + 1) < x6 then (ckB x8 40 <| ckI (x8 + 1) <| ckB (x8 + 1) 40 <| bd (Ci_and (G 211 x8) (G 211 (x8 + 1)) G) fun z2 G3 =>
  Wo_equal_b116 P W x6 x7 x8 z2 x7 G3)
  else (ckB x8 40 <| Wo_equal_b116 P W x6 x7 x8 (G 211 x8) x7 G))
  else (ex (some (Sum.inl (x7, G))))
noncomputable def Wo_equal_l61 (P W : Int) (x6 : Int) (x7 : Int) (x8 : Int) (G : St) : Option ((Int × St) ⊕ (Int × St)) :=
  wh (fun s => Wo_equal_s61 P W x6 s.1 s.2.1 s.2.2) (x7, x8, G)
theorem Wo_equal_l61_eq (P W : Int) (x6 : Int) (x7 : Int) (x8 : Int) (G : St) : Wo_equal_l61 P W x6 x7 x8 G = (Wo_equal_s61 P W x6 x7 x8 G).bind (lk (fun s => Wo_equal_l61 P W x6 s.1 s.2.1 s.2.2) some) := by
  exact wh_eq _ _
noncomputable def Wo_equal_s49 (P W : Int) (x6 : Int) (G : St) : Option ((Int × St) ⊕ (Int × St)) :=
  if 1 < x6 then (Wo_equal_l61 P W x6 0 0 G)
  else (ex (ckB 0 40 <| some (G 211 0, G)))
noncomputable def Wo_equal_l49 (P W : Int) (x6 : Int) (G : St) : Option (Int × St) :=
  wh (fun s => Wo_equal_s49 P W s.1 s.2) (x6, G)
theorem Wo_equal_l49_eq (P W : Int) (x6 : Int) (G : St) : Wo_equal_l49 P W x6 G = (Wo_equal_s49 P W x6 G).bind (lk (fun s => Wo_equal_l49 P W s.1 s.2) some) := by
  exact wh_eq _ _
noncomputable def Wo_equal_s3 (P W : Int) (x1 : Int) (x2 : Int) (x3 : Int) (x4 : Int) (x5 : Int) (x6 : Int) (G : St) : Option ((Int × St) ⊕ (Int × St)) :=
  if x6 < x5 then (ckI (x2 + x6) <| ckB (x2 + x6) (ialC P W x1) <| ckI (x4 + x6) <| ckB (x4 + x6) (ialC P W x3) <| bd (Ci_xor (G x1 (x2 + x6)) (G x3 (x4 + x6)) G) fun z4 G5 =>
  ckB x6 40 <| tk (up G5 211 x6 (j_xo z4 1)) fun G6 =>
  ckI (x6 + 1) <| some (Sum.inl (x6 + 1, G6)))
  else (ex (Wo_equal_l49 P W x5 G))
noncomputable def Wo_equal_l3 (P W : Int) (x1 : Int) (x2 : Int) (x3 : Int) (x4 : Int) (x5 : Int) (x6 : Int) (G : St) : Option (Int × St) :=
  wh (fun s => Wo_equal_s3 P W x1 x2 x3 x4 x5 s.1 s.2) (x6, G)
theorem Wo_equal_l3_eq (P W : Int) (x1 : Int) (x2 : Int) (x3 : Int) (x4 : Int) (x5 : Int) (x6 : Int) (G : St) : Wo_equal_l3 P W x1 x2 x3 x4 x5 x6 G = (Wo_equal_s3 P W x1 x2 x3 x4 x5 x6 G).bind (lk (fun s => Wo_equal_l3 P W x1 x2 x3 x4 x5 s.1 s.2) some) := by
  exact wh_eq _ _
noncomputable def Wo_equal (P W : Int) (x1 : Int) (x2 : Int) (x3 : Int) (x4 : Int) (x5 : Int) (G : St) : Option (Int × St) :=
  Wo_equal_l3 P W x1 x2 x3 x4 x5 0 G
noncomputable def Bd_isElement_b22 (P W : Int) (x1 : Int) (x2 : Int) (G : St) : Option (Int × St) :=
  bd (Bd_constant P W x2 G) fun _ G2 =>
  bd (Wo_equal P W 181 x1 205 0 W G2) fun z3 G4 =>
  some (z3, G4)
noncomputable def Bd_isElement (P W : Int) (x1 : Int) (x2 : Int) (G : St) : Option (Int × St) :=
  if W < 7 then (if x2 < (j_sl 1 W) then (Bd_isElement_b22 P W x1 x2 G)
  else (some ((-2), G)))
  else (Bd_isElement_b22 P W x1 x2 G)
noncomputable def Bd_needBelow (x1 : Int) (x3 : Int) (x4 : Int) (G : St) : Option (Int × St) :=
  if x1 < x3 then (some (0, G))
  else (bd (Ft_set 7 x4 G) fun _ G2 =>
  some (0, G2))
noncomputable def Bd_place (P W : Int) (x1 : Int) (G : St) : Option (Int × St) :=
  ckI ((G 180 6) - x1) <| ckI (W * ((G 180 6) - x1)) <| some (W * ((G 180 6) - x1), G)
noncomputable def Bd_push (P W : Int) (x1 : Int) (x2 : Int) (x3 : Int) (G : St) : Option (Int × St) :=
  ckI (W * (G 180 6)) <| ckA x2 x3 (ialC P W x1) <| ckA (W * (G 180 6)) x3 (W * 4000) <| tk (acp G x1 x2 181 (W * (G 180 6)) x3) fun G1 =>
  ckI ((G1 180 6) + 1) <| tk (up G1 180 6 ((G1 180 6) + 1)) fun G2 =>
  some (0, G2)
noncomputable def Bd_settle (P W : Int) (x1 : Int) (x2 : Int) (G : St) : Option (Int × St) :=
  ckI ((G 180 6) - x1) <| tk (up G 180 6 ((G 180 6) - x1)) fun G1 =>
  bd (Bd_push P W 207 0 x2 G1) fun _ G3 =>
  some (0, G3)
noncomputable def Bd_valueOf_b36 (P W : Int) (x1 : Int) (x4 : Int) (s0 : Int) (s1 : Int) (G : St) : Option ((Int × Int × St) ⊕ (Int × St)) :=
  ckI (x4 + 1) <| some (Sum.inl (j_lor s1 s0, x4 + 1, G))
noncomputable def Bd_valueOf_s5 (P W : Int) (x1 : Int) (x2 : Int) (x4 : Int) (G : St) : Option ((Int × Int × St) ⊕ (Int × St)) :=
  if x4 < W then (ckI (x1 + x4) <| ckB (x1 + x4) (W * 4000) <| if (G 181 (x1 + x4)) = (-1) then (Bd_valueOf_b36 P W x1 x4 (j_lsl 1 x4) x2 G)
  else (Bd_valueOf_b36 P W x1 x4 0 x2 G))
  else (ex (some (x2, G)))
noncomputable def Bd_valueOf_l5 (P W : Int) (x1 : Int) (x2 : Int) (x4 : Int) (G : St) : Option (Int × St) :=
  wh (fun s => Bd_valueOf_s5 P W x1 s.1 s.2.1 s.2.2) (x2, x4, G)
theorem Bd_valueOf_l5_eq (P W : Int) (x1 : Int) (x2 : Int) (x4 : Int) (G : St) : Bd_valueOf_l5 P W x1 x2 x4 G = (Bd_valueOf_s5 P W x1 x2 x4 G).bind (lk (fun s => Bd_valueOf_l5 P W x1 s.1 s.2.1 s.2.2) some) := by
  exact wh_eq _ _
noncomputable def Bd_valueOf (P W : Int) (x1 : Int) (G : St) : Option (Int × St) :=
  Bd_valueOf_l5 P W x1 0 0 G
noncomputable def Ft_is (G : St) : Option (Int × St) :=
  ckB (if (G 130 0) = 0 then 0 else 1) 2 (some ((if (G 130 0) = 0 then 0 else 1), G))
noncomputable def Bd_element_b264 (P W : Int) (x2 : Int) (G : St) : Option (Int × St) :=
  bd (Bd_settle P W 1 x2 G) fun _ G6 =>
  some (0, G6)
noncomputable def Bd_element_s209 (P W : Int) (x1 : Int) (x2 : Int) (x3 : Int) (x4 : Int) (x5 : Int) (x6 : Int) (x7 : Int) (x8 : Int) (G : St) : Option ((Int × St) ⊕ ((Int × St) ⊕ (Int × St))) :=
  if x8 < x2 then (ckB x8 W <| ckB x8 W <| bd (Ci_and x7 (G 205 x8) G) fun z11 G12 =>
  bd (Ci_xor (G 207 x8) z11 G12) fun z13 G14 =>
  ckB x8 W <| tk (up G14 207 x8 z13) fun G15 =>
  ckI (x8 + 1) <| some (Sum.inl (x8 + 1, G15)))
  else (ex (ckI (x6 + 1) <| some (Sum.inl (x6 + 1, G))))
noncomputable def Bd_element_l209 (P W : Int) (x1 : Int) (x2 : Int) (x3 : Int) (x4 : Int) (x5 : Int) (x6 : Int) (x7 : Int) (x8 : Int) (G : St) : Option ((Int × St) ⊕ (Int × St)) :=
  wh (fun s => Bd_element_s209 P W x1 x2 x3 x4 x5 x6 x7 s.1 s.2) (x8, G)
theorem Bd_element_l209_eq (P W : Int) (x1 : Int) (x2 : Int) (x3 : Int) (x4 : Int) (x5 : Int) (x6 : Int) (x7 : Int) (x8 : Int) (G : St) : Bd_element_l209 P W x1 x2 x3 x4 x5 x6 x7 x8 G = (Bd_element_s209 P W x1 x2 x3 x4 x5 x6 x7 x8 G).bind (lk (fun s => Bd_element_l209 P W x1 x2 x3 x4 x5 x6 x7 s.1 s.2) some) := by
  exact wh_eq _ _
noncomputable def Bd_element_s171 (P W : Int) (x1 : Int) (x2 : Int) (x3 : Int) (x4 : Int) (x5 : Int) (x6 : Int) (G : St) : Option ((Int × St) ⊕ (Int × St)) :=
  if x6 < x3 then (bd (Bd_isElement P W x5 x6 G) fun z7 G8 =>
  ckB x1 12000 <| ckI ((G8 112 x1) + x6) <| bd (Bd_fetch P W x4 ((G8 112 x1) + x6) x2 G8) fun _ G10 =>
  Bd_element_l209 P W x1 x2 x3 x4 x5 x6 z7 0 G10)
  else (ex (Bd_element_b264 P W x2 G))
noncomputable def Bd_element_l171 (P W : Int) (x1 : Int) (x2 : Int) (x3 : Int) (x4 : Int) (x5 : Int) (x6 : Int) (G : St) : Option (Int × St) :=
  wh (fun s => Bd_element_s171 P W x1 x2 x3 x4 x5 s.1 s.2) (x6, G)
theorem Bd_element_l171_eq (P W : Int) (x1 : Int) (x2 : Int) (x3 : Int) (x4 : Int) (x5 : Int) (x6 : Int) (G : St) : Bd_element_l171 P W x1 x2 x3 x4 x5 x6 G = (Bd_element_s171 P W x1 x2 x3 x4 x5 x6 G).bind (lk (fun s => Bd_element_l171 P W x1 x2 x3 x4 x5 s.1 s.2) some) := by
  exact wh_eq _ _
noncomputable def Bd_element_s147 (P W : Int) (x1 : Int) (x2 : Int) (x3 : Int) (x4 : Int) (x5 : Int) (x6 : Int) (G : St) : Option ((Int × St) ⊕ (Int × St)) :=
  if x6 < x2 then (ckB x6 W <| tk (up G 207 x6 (-2)) fun G16 =>
  ckI (x6 + 1) <| some (Sum.inl (x6 + 1, G16)))
  else (ex (Bd_element_l171 P W x1 x2 x3 x4 x5 0 G))
noncomputable def Bd_element_l147 (P W : Int) (x1 : Int) (x2 : Int) (x3 : Int) (x4 : Int) (x5 : Int) (x6 : Int) (G : St) : Option (Int × St) :=
  wh (fun s => Bd_element_s147 P W x1 x2 x3 x4 x5 s.1 s.2) (x6, G)
theorem Bd_element_l147_eq (P W : Int) (x1 : Int) (x2 : Int) (x3 : Int) (x4 : Int) (x5 : Int) (x6 : Int) (G : St) : Bd_element_l147 P W x1 x2 x3 x4 x5 x6 G = (Bd_element_s147 P W x1 x2 x3 x4 x5 x6 G).bind (lk (fun s => Bd_element_l147 P W x1 x2 x3 x4 x5 s.1 s.2) some) := by
  exact wh_eq _ _
noncomputable def Bd_element_b49 (P W : Int) (x1 : Int) (x2 : Int) (x3 : Int) (s0 : Int) (G : St) : Option (Int × St) :=
  bd (Bd_place P W 1 G) fun z3 G4 =>
  ckB x1 12000 <| if (j_an (G4 114 x1) 2) = 0 then (Bd_element_l147 P W x1 x2 x3 s0 z3 0 G4)
  else (bd (Bd_valueOf P W z3 G4) fun z17 G18 =>
  ckB x1 12000 <| bd (Bd_needBelow z17 x3 (G18 113 x1) G18) fun _ G20 =>
  bd (Ft_is G20) fun z21 G22 =>
  if z21 = 0 then (ckB x1 12000 <| ckI ((G22 112 x1) + (w32 z17)) <| bd (Bd_fetch P W s0 ((G22 112 x1) + (w32 z17)) x2 G22) fun _ G24 =>
  ckA 0 x2 W <| ckA 0 x2 W <| tk (acp G24 205 0 207 0 x2) fun G25 =>
  Bd_element_b264 P W x2 G25)
  else (some (0, G22)))
noncomputable def Bd_element (P W : Int) (x1 : Int) (G : St) : Option (Int × St) :=
  ckB x1 12000 <| bd (Bd_bits P W (j_an (G 114 x1) 1) G) fun z1 G2 =>
  ckB x1 12000 <| ckD (G2 114 x1) 512 <| ckB x1 12000 <| Bd_element_b49 P W x1 z1 ((G2 114 x1) / 512) (if (j_an (G2 114 x1) 4) = 0 then 0 else 1) G2
noncomputable def Bd_pushBit (P W : Int) (x1 : Int) (G : St) : Option (Int × St) :=
  ckI (W * (G 180 6)) <| ckB (W * (G 180 6)) (W * 4000) <| tk (up G 181 (W * (G 180 6)) x1) fun G1 =>
  ckI ((G1 180 6) + 1) <| tk (up G1 180 6 ((G1 180 6) + 1)) fun G2 =>
  some (0, G2)
noncomputable def Bd_read (P W : Int) (x1 : Int) (G : St) : Option (Int × St) :=
  ckB x1 12000 <| ckD (G 114 x1) 2 <| ckB x1 12000 <| ckB x1 12000 <| bd (Bd_bits P W (j_an (G 114 x1) 1) G) fun z1 G2 =>
  if ((G 114 x1) / 2) = 1 then (ckI (W * (G 112 x1)) <| bd (Bd_push P W 185 (W * (G 112 x1)) z1 G2) fun _ G14 =>
  some (0, G14))
  else (if ((G 114 x1) / 2) = 0 then (bd (Bd_inputWord P W (G 112 x1) z1 G2) fun _ G10 =>
  bd (Bd_push P W 205 0 z1 G10) fun _ G12 =>
  some (0, G12))
  else (if ((G 114 x1) / 2) = 2 then (ckB (G 112 x1) 31 <| bd (Bd_constant P W (G2 198 (G 112 x1)) G2) fun _ G6 =>
  bd (Bd_push P W 205 0 W G6) fun _ G8 =>
  some (0, G8))
  else (ckI ((G2 180 29) - 1) <| ckB ((G2 180 29) - 1) 4000 <| ckI ((G2 202 ((G2 180 29) - 1)) + (G 112 x1)) <| ckI (W * ((G2 202 ((G2 180 29) - 1)) + (G 112 x1))) <| bd (Bd_push P W 181 (W * ((G2 202 ((G2 180 29) - 1)) + (G 112 x1))) z1 G2) fun _ G4 =>
  some (0, G4))))
noncomputable def Bd_factor_b88 (P W : Int) (x1 : Int) (G : St) : Option (Int × St) :=
  bd (Bd_count G) fun _ G2 =>
  ckB x1 12000 <| bd (Bd_constant P W (j_lan (G2 112 x1) 4294967295) G2) fun _ G4 =>
  bd (Bd_push P W 205 0 W G4) fun _ G6 =>
  some (0, G6)
noncomputable def Bd_factor_b148 (P W : Int) (s0 : Int) (G : St) : Option (Int × St) :=
  bd (Bd_pushBit P W s0 G) fun _ G10 =>
  some (0, G10)
noncomputable def Bd_factor_b130 (P W : Int) (x2 : Int) (G : St) : Option (Int × St) :=
  bd (Bd_count G) fun _ G8 =>
  ckB x2 61 <| ckB 23 61 <| if x2 = 23 then (Bd_factor_b148 P W (-1) G8)
  else (Bd_factor_b148 P W (-2) G8)
noncomputable def Bd_factor_b154 (P W : Int) (x1 : Int) (G : St) : Option (Int × St) :=
  bd (Bd_count G) fun _ G12 =>
  bd (Bd_read P W x1 G12) fun _ G14 =>
  some (0, G14)
noncomputable def Bd_factor_b166 (P W : Int) (G : St) : Option (Int × St) :=
  bd (Bd_count G) fun _ G16 =>
  some (0, G16)
noncomputable def Bd_factor_b173 (P W : Int) (x1 : Int) (G : St) : Option (Int × St) :=
  bd (Bd_element P W x1 G) fun _ G18 =>
  some (0, G18)
noncomputable def Bd_factor_b181 (P W : Int) (x1 : Int) (G : St) : Option (Int × St) :=
  ckB (G 180 29) 4000 <| tk (up G 201 (G 180 29) (G 180 7)) fun G19 =>
  ckB x1 12000 <| ckI ((G19 180 6) - (G19 114 x1)) <| ckB (G19 180 29) 4000 <| tk (up G19 202 (G19 180 29) ((G19 180 6) - (G19 114 x1))) fun G20 =>
  ckI ((G20 180 29) + 1) <| tk (up G20 180 29 ((G20 180 29) + 1)) fun G21 =>
  ckB x1 12000 <| ckB (G21 112 x1) 4000 <| tk (up G21 180 7 (G21 200 (G21 112 x1))) fun G22 =>
  some (0, G22)
noncomputable def Bd_factor_b248 (P W : Int) (G : St) : Option (Int × St) :=
  bd (Bd_place P W 1 G) fun z23 G24 =>
  ckI (z23 + 1) <| ckI (W - 1) <| ckA 0 (W - 1) W <| ckA (z23 + 1) (W - 1) (W * 4000) <| tk (acp G24 206 0 181 (z23 + 1) (W - 1)) fun G25 =>
  some (0, G25)
noncomputable def Bd_factor_b276 (P W : Int) (x1 : Int) (G : St) : Option (Int × St) :=
  bd (Bd_place P W 1 G) fun z26 G27 =>
  bd (Bd_valueOf P W z26 G27) fun z28 G29 =>
  ckB x1 12000 <| bd (Bd_needBelow z28 W (G29 114 x1) G29) fun _ G31 =>
  ckI ((G31 180 6) - 1) <| tk (up G31 180 6 ((G31 180 6) - 1)) fun G32 =>
  bd (Ft_is G32) fun z33 G34 =>
  if z33 = 0 then (bd (Bd_place P W 1 G34) fun z35 G36 =>
  bd (Bd_place P W 1 G36) fun z37 G38 =>
  ckI (z37 + (w32 z28)) <| ckB (z37 + (w32 z28)) (W * 4000) <| ckB z35 (W * 4000) <| tk (up G38 181 z35 (G38 181 (z37 + (w32 z28)))) fun G39 =>
  some (0, G39))
  else (some (0, G34))
noncomputable def Bd_factor (P W : Int) (x1 : Int) (G : St) : Option (Int × St) :=
  ckB x1 12000 <| ckB (G 111 x1) 61 <| swt (G 111 x1) 22 [Bd_factor_b88 P W x1 G, Bd_factor_b130 P W (G 111 x1) G, Bd_factor_b130 P W (G 111 x1) G, Bd_factor_b154 P W x1 G, Bd_factor_b166 P W G, Bd_factor_b173 P W x1 G, Bd_factor_b166 P W G, some (0, G), Bd_factor_b181 P W x1 G, Bd_factor_b166 P W G, Bd_factor_b248 P W G, Bd_factor_b166 P W G, some (0, G), Bd_factor_b276 P W x1 G, Bd_factor_b166 P W G] (some (0, G))
noncomputable def Wo_less_b31 (P W : Int) (x1 : Int) (x2 : Int) (x3 : Int) (x4 : Int) (x5 : Int) (x6 : Int) (s0 : Int) (G : St) : Option ((Int × Int × St) ⊕ (Int × St)) :=
  ckI (x4 + x6) <| ckB (x4 + x6) (ialC P W x3) <| bd (Ci_xor (j_xo (j_xo (G x3 (x4 + x6)) s0) 1) x5 G) fun z1 G2 =>
  ckI (x2 + x6) <| ckB (x2 + x6) (ialC P W x1) <| bd (Ci_xor (j_xo (G2 x1 (x2 + x6)) s0) x5 G2) fun z3 G4 =>
  bd (Ci_and z3 z1 G4) fun z5 G6 =>
  bd (Ci_xor x5 z5 G6) fun z7 G8 =>
  ckI (x6 + 1) <| some (Sum.inl (z7, x6 + 1, G8))
noncomputable def Wo_less_s6 (P W : Int) (x1 : Int) (x2 : Int) (x3 : Int) (x4 : Int) (x5 : Int) (x6 : Int) (G : St) : Option ((Int × Int × St) ⊕ (Int × St)) :=
  if x6 < W then (ckI (W - 1) <| Wo_less_b31 P W x1 x2 x3 x4 x5 x6 (if x6 = (W - 1) then 1 else 0) G)
  else (ex (some (j_xo x5 1, G)))
noncomputable def Wo_less_l6 (P W : Int) (x1 : Int) (x2 : Int) (x3 : Int) (x4 : Int) (x5 : Int) (x6 : Int) (G : St) : Option (Int × St) :=
  wh (fun s => Wo_less_s6 P W x1 x2 x3 x4 s.1 s.2.1 s.2.2) (x5, x6, G)
theorem Wo_less_l6_eq (P W : Int) (x1 : Int) (x2 : Int) (x3 : Int) (x4 : Int) (x5 : Int) (x6 : Int) (G : St) : Wo_less_l6 P W x1 x2 x3 x4 x5 x6 G = (Wo_less_s6 P W x1 x2 x3 x4 x5 x6 G).bind (lk (fun s => Wo_less_l6 P W x1 x2 x3 x4 s.1 s.2.1 s.2.2) some) := by
  exact wh_eq _ _
noncomputable def Wo_less (P W : Int) (x1 : Int) (x2 : Int) (x3 : Int) (x4 : Int) (G : St) : Option (Int × St) :=
  Wo_less_l6 P W x1 x2 x3 x4 (-1) 0 G
noncomputable def Bd_compared_b40 (P W : Int) (x2 : Int) (x3 : Int) (x4 : Int) (G : St) : Option (Int × St) :=
  bd (Wo_equal P W 181 x2 181 x3 x4 G) fun z1 G2 =>
  some (z1, G2)
noncomputable def Bd_compared_b60 (P W : Int) (x2 : Int) (x3 : Int) (x4 : Int) (G : St) : Option (Int × St) :=
  bd (Wo_equal P W 181 x2 181 x3 x4 G) fun z3 G4 =>
  some (j_xo z3 1, G4)
noncomputable def Bd_compared_b82 (P W : Int) (x2 : Int) (x3 : Int) (G : St) : Option (Int × St) :=
  bd (Wo_less P W 181 x2 181 x3 G) fun z5 G6 =>
  some (z5, G6)
noncomputable def Bd_compared_b100 (P W : Int) (x2 : Int) (x3 : Int) (G : St) : Option (Int × St) :=
  bd (Wo_less P W 181 x3 181 x2 G) fun z7 G8 =>
  some (j_xo z7 1, G8)
noncomputable def Bd_compared_b120 (P W : Int) (x2 : Int) (x3 : Int) (G : St) : Option (Int × St) :=
  bd (Wo_less P W 181 x3 181 x2 G) fun z9 G10 =>
  some (z9, G10)
noncomputable def Bd_compared_b138 (P W : Int) (x2 : Int) (x3 : Int) (G : St) : Option (Int × St) :=
  bd (Wo_less P W 181 x2 181 x3 G) fun z11 G12 =>
  some (j_xo z11 1, G12)
noncomputable def Bd_compared (P W : Int) (x1 : Int) (x2 : Int) (x3 : Int) (x4 : Int) (G : St) : Option (Int × St) :=
  ckB x1 61 <| swt x1 43 [Bd_compared_b40 P W x2 x3 x4 G, Bd_compared_b60 P W x2 x3 x4 G, Bd_compared_b82 P W x2 x3 G, Bd_compared_b100 P W x2 x3 G, Bd_compared_b120 P W x2 x3 G] (Bd_compared_b138 P W x2 x3 G)
noncomputable def Ci_or (x1 : Int) (x2 : Int) (G : St) : Option (Int × St) :=
  bd (Ci_and (j_xo x1 1) (j_xo x2 1) G) fun z1 G2 =>
  some (j_xo z1 1, G2)
noncomputable def Bd_bitwise_s63 (P W : Int) (x2 : Int) (x3 : Int) (x4 : Int) (x5 : Int) (G : St) : Option ((Int × St) ⊕ (Int × St)) :=
  if x5 < x4 then (ckI (x2 + x5) <| ckB (x2 + x5) (W * 4000) <| ckI (x3 + x5) <| ckB (x3 + x5) (W * 4000) <| bd (Ci_or (G 181 (x2 + x5)) (G 181 (x3 + x5)) G) fun z5 G6 =>
  ckB x5 W <| tk (up G6 207 x5 z5) fun G7 =>
  ckI (x5 + 1) <| some (Sum.inl (x5 + 1, G7)))
  else (ex (bd (Bd_settle P W 2 x4 G) fun _ G4 =>
  some (0, G4)))
noncomputable def Bd_bitwise_l63 (P W : Int) (x2 : Int) (x3 : Int) (x4 : Int) (x5 : Int) (G : St) : Option (Int × St) :=
  wh (fun s => Bd_bitwise_s63 P W x2 x3 x4 s.1 s.2) (x5, G)
theorem Bd_bitwise_l63_eq (P W : Int) (x2 : Int) (x3 : Int) (x4 : Int) (x5 : Int) (G : St) : Bd_bitwise_l63 P W x2 x3 x4 x5 G = (Bd_bitwise_s63 P W x2 x3 x4 x5 G).bind (lk (fun s => Bd_bitwise_l63 P W x2 x3 x4 s.1 s.2) some) := by
  exact wh_eq _ _
noncomputable def Bd_bitwise_b60 (P W : Int) (x2 : Int) (x3 : Int) (x4 : Int) (G : St) : Option (Int × St) :=
  Bd_bitwise_l63 P W x2 x3 x4 0 G
noncomputable def Bd_bitwise_s121 (P W : Int) (x2 : Int) (x3 : Int) (x4 : Int) (x5 : Int) (G : St) : Option ((Int × St) ⊕ (Int × St)) :=
  if x5 < x4 then (ckI (x2 + x5) <| ckB (x2 + x5) (W * 4000) <| ckI (x3 + x5) <| ckB (x3 + x5) (W * 4000) <| bd (Ci_and (G 181 (x2 + x5)) (G 181 (x3 + x5)) G) fun z10 G11 =>
  ckB x5 W <| tk (up G11 207 x5 z10) fun G12 =>
  ckI (x5 + 1) <| some (Sum.inl (x5 + 1, G12)))
  else (ex (bd (Bd_settle P W 2 x4 G) fun _ G9 =>
  some (0, G9)))
noncomputable def Bd_bitwise_l121 (P W : Int) (x2 : Int) (x3 : Int) (x4 : Int) (x5 : Int) (G : St) : Option (Int × St) :=
  wh (fun s => Bd_bitwise_s121 P W x2 x3 x4 s.1 s.2) (x5, G)
theorem Bd_bitwise_l121_eq (P W : Int) (x2 : Int) (x3 : Int) (x4 : Int) (x5 : Int) (G : St) : Bd_bitwise_l121 P W x2 x3 x4 x5 G = (Bd_bitwise_s121 P W x2 x3 x4 x5 G).bind (lk (fun s => Bd_bitwise_l121 P W x2 x3 x4 s.1 s.2) some) := by
  exact wh_eq _ _
noncomputable def Bd_bitwise_b118 (P W : Int) (x2 : Int) (x3 : Int) (x4 : Int) (G : St) : Option (Int × St) :=
  Bd_bitwise_l121 P W x2 x3 x4 0 G
noncomputable def Bd_bitwise_s179 (P W : Int) (x2 : Int) (x3 : Int) (x4 : Int) (x5 : Int) (G : St) : Option ((Int × St) ⊕ (Int × St)) :=
  if x5 < x4 then (ckI (x2 + x5) <| ckB (x2 + x5) (W * 4000) <| ckI (x3 + x5) <| ckB (x3 + x5) (W * 4000) <| bd (Ci_xor (G 181 (x2 + x5)) (G 181 (x3 + x5)) G) fun z15 G16 =>
  ckB x5 W <| tk (up G16 207 x5 z15) fun G17 =>
  ckI (x5 + 1) <| some (Sum.inl (x5 + 1, G17)))
  else (ex (bd (Bd_settle P W 2 x4 G) fun _ G14 =>
  some (0, G14)))
noncomputable def Bd_bitwise_l179 (P W : Int) (x2 : Int) (x3 : Int) (x4 : Int) (x5 : Int) (G : St) : Option (Int × St) :=
  wh (fun s => Bd_bitwise_s179 P W x2 x3 x4 s.1 s.2) (x5, G)
theorem Bd_bitwise_l179_eq (P W : Int) (x2 : Int) (x3 : Int) (x4 : Int) (x5 : Int) (G : St) : Bd_bitwise_l179 P W x2 x3 x4 x5 G = (Bd_bitwise_s179 P W x2 x3 x4 x5 G).bind (lk (fun s => Bd_bitwise_l179 P W x2 x3 x4 s.1 s.2) some) := by
  exact wh_eq _ _
noncomputable def Bd_bitwise_b176 (P W : Int) (x2 : Int) (x3 : Int) (x4 : Int) (G : St) : Option (Int × St) :=
  Bd_bitwise_l179 P W x2 x3 x4 0 G
noncomputable def Bd_bitwise_b234 (P W : Int) (x1 : Int) (x2 : Int) (x3 : Int) (x4 : Int) (G : St) : Option (Int × St) :=
  ckB x1 12000 <| bd (Bd_compared P W (G 111 x1) x2 x3 x4 G) fun z18 G19 =>
  ckB 0 W <| tk (up G19 207 0 z18) fun G20 =>
  bd (Bd_settle P W 2 1 G20) fun _ G22 =>
  some (0, G22)
noncomputable def Bd_bitwise (P W : Int) (x1 : Int) (x2 : Int) (x3 : Int) (G : St) : Option (Int × St) :=
  ckB x1 12000 <| bd (Bd_bits P W (G 114 x1) G) fun z1 G2 =>
  ckB x1 12000 <| ckB (G2 111 x1) 61 <| swt (G2 111 x1) 38 [Bd_bitwise_b60 P W x2 x3 z1 G2, Bd_bitwise_b118 P W x2 x3 z1 G2, Bd_bitwise_b60 P W x2 x3 z1 G2, Bd_bitwise_b176 P W x2 x3 z1 G2, Bd_bitwise_b118 P W x2 x3 z1 G2] (Bd_bitwise_b234 P W x1 x2 x3 z1 G2)
noncomputable def Bd_shift_b119 (P W : Int) (x2 : Int) (x5 : Int) (x6 : Int) (s0 : Int) (s1 : Int) (G : St) : Option ((Int × St) ⊕ (Int × St)) :=
  ckB s1 W <| tk (up G 207 s1 s0) fun G11 =>
  ckI (x6 + 1) <| some (Sum.inl (x6 + 1, G11))
noncomputable def Bd_shift_s67 (P W : Int) (x2 : Int) (x5 : Int) (x6 : Int) (G : St) : Option ((Int × St) ⊕ (Int × St)) :=
  if x6 < W then (ckI (x6 + x5) <| if (x6 + x5) < 0 then (Bd_shift_b119 P W x2 x5 x6 (-2) x6 G)
  else (ckI (x6 + x5) <| if (x6 + x5) < W then (ckI (x2 + x6) <| ckI ((x2 + x6) + x5) <| ckB ((x2 + x6) + x5) (W * 4000) <| Bd_shift_b119 P W x2 x5 x6 (G 181 ((x2 + x6) + x5)) x6 G)
  else (Bd_shift_b119 P W x2 x5 x6 (-2) x6 G)))
  else (ex (bd (Bd_settle P W 2 W G) fun _ G10 =>
  some (0, G10)))
noncomputable def Bd_shift_l67 (P W : Int) (x2 : Int) (x5 : Int) (x6 : Int) (G : St) : Option (Int × St) :=
  wh (fun s => Bd_shift_s67 P W x2 x5 s.1 s.2) (x6, G)
theorem Bd_shift_l67_eq (P W : Int) (x2 : Int) (x5 : Int) (x6 : Int) (G : St) : Bd_shift_l67 P W x2 x5 x6 G = (Bd_shift_s67 P W x2 x5 x6 G).bind (lk (fun s => Bd_shift_l67 P W x2 x5 s.1 s.2) some) := by
  exact wh_eq _ _
noncomputable def Bd_shift_b62 (P W : Int) (x2 : Int) (s0 : Int) (G : St) : Option (Int × St) :=
  Bd_shift_l67 P W x2 s0 0 G
noncomputable def Bd_shift (P W : Int) (x1 : Int) (x2 : Int) (G : St) : Option (Int × St) :=
  bd (Bd_place P W 1 G) fun z1 G2 =>
  bd (Bd_valueOf P W z1 G2) fun z3 G4 =>
  ckB x1 12000 <| bd (Bd_needBelow z3 W (G4 114 x1) G4) fun _ G6 =>
  bd (Ft_is G6) fun z7 G8 =>
  if z7 = 0 then (ckB x1 12000 <| ckB (G8 111 x1) 61 <| ckB 49 61 <| if (G8 111 x1) = 49 then (ckL (-z3) <| Bd_shift_b62 P W x2 (w32 (-z3)) G8)
  else (Bd_shift_b62 P W x2 (w32 z3) G8))
  else (some (0, G8))
noncomputable def Ci_mux (x1 : Int) (x2 : Int) (x3 : Int) (G : St) : Option (Int × St) :=
  bd (Ci_xor x2 x3 G) fun z1 G2 =>
  bd (Ci_and x1 z1 G2) fun z3 G4 =>
  bd (Ci_xor x3 z3 G4) fun z5 G6 =>
  some (z5, G6)
noncomputable def Wo_sum_b114 (P W : Int) (x1 : Int) (x2 : Int) (x3 : Int) (x4 : Int) (x5 : Int) (x7 : Int) (x8 : Int) (x9 : Int) (x10 : Int) (x11 : Int) (G : St) : Option ((Int × Int × St) ⊕ (Int × St)) :=
  ckI (x11 + 1) <| some (Sum.inl (x10, x11 + 1, G))
noncomputable def Wo_sum_b43 (P W : Int) (x1 : Int) (x2 : Int) (x3 : Int) (x4 : Int) (x5 : Int) (x7 : Int) (x8 : Int) (x9 : Int) (x10 : Int) (x11 : Int) (x12 : Int) (s0 : Int) (s1 : Int) (G : St) : Option ((Int × Int × St) ⊕ (Int × St)) :=
  bd (Ci_xor (j_xo s1 s0) x10 G) fun z1 G2 =>
  ckI (x9 + x11) <| bd (Ci_xor x12 z1 G2) fun z3 G4 =>
  ckB (x9 + x11) (ialC P W x8) <| tk (up G4 x8 (x9 + x11) z3) fun G5 =>
  ckI (x7 - 1) <| if x11 < (x7 - 1) then (bd (Ci_xor x12 x10 G5) fun z6 G7 =>
  bd (Ci_and z6 z1 G7) fun z8 G9 =>
  bd (Ci_xor x10 z8 G9) fun z10 G11 =>
  Wo_sum_b114 P W x1 x2 x3 x4 x5 x7 x8 x9 z10 x11 G11)
  else (Wo_sum_b114 P W x1 x2 x3 x4 x5 x7 x8 x9 x10 x11 G5)
noncomputable def Wo_sum_s7 (P W : Int) (x1 : Int) (x2 : Int) (x3 : Int) (x4 : Int) (x5 : Int) (x7 : Int) (x8 : Int) (x9 : Int) (x10 : Int) (x11 : Int) (G : St) : Option ((Int × Int × St) ⊕ (Int × St)) :=
  if x11 < x7 then (ckI (x2 + x11) <| ckB (x2 + x11) (ialC P W x1) <| ckI (x4 + x11) <| ckB (x4 + x11) (ialC P W x3) <| Wo_sum_b43 P W x1 x2 x3 x4 x5 x7 x8 x9 x10 x11 (G x1 (x2 + x11)) (if x5 = 0 then 0 else 1) (G x3 (x4 + x11)) G)
  else (ex (some (0, G)))
noncomputable def Wo_sum_l7 (P W : Int) (x1 : Int) (x2 : Int) (x3 : Int) (x4 : Int) (x5 : Int) (x7 : Int) (x8 : Int) (x9 : Int) (x10 : Int) (x11 : Int) (G : St) : Option (Int × St) :=
  wh (fun s => Wo_sum_s7 P W x1 x2 x3 x4 x5 x7 x8 x9 s.1 s.2.1 s.2.2) (x10, x11, G)
theorem Wo_sum_l7_eq (P W : Int) (x1 : Int) (x2 : Int) (x3 : Int) (x4 : Int) (x5 : Int) (x7 : Int) (x8 : Int) (x9 : Int) (x10 : Int) (x11 : Int) (G : St) : Wo_sum_l7 P W x1 x2 x3 x4 x5 x7 x8 x9 x10 x11 G = (Wo_sum_s7 P W x1 x2 x3 x4 x5 x7 x8 x9 x10 x11 G).bind (lk (fun s => Wo_sum_l7 P W x1 x2 x3 x4 x5 x7 x8 x9 s.1 s.2.1 s.2.2) some) := by
  exact wh_eq _ _
noncomputable def Wo_sum (P W : Int) (x1 : Int) (x2 : Int) (x3 : Int) (x4 : Int) (x5 : Int) (x6 : Int) (x7 : Int) (x8 : Int) (x9 : Int) (G : St) : Option (Int × St) :=
  Wo_sum_l7 P W x1 x2 x3 x4 x5 x7 x8 x9 x6 0 G
noncomputable def Wo_product_s142 (P W : Int) (x5 : Int) (x6 : Int) (x7 : Int) (G : St) : Option ((Int × St) ⊕ (Int × St)) :=
  if x7 < W then (ckI (x6 + x7) <| ckB x7 40 <| ckB (x6 + x7) (ialC P W x5) <| tk (up G x5 (x6 + x7) (G 211 x7)) fun G1 =>
  ckI (x7 + 1) <| some (Sum.inl (x7 + 1, G1)))
  else (ex (some (0, G)))
noncomputable def Wo_product_l142 (P W : Int) (x5 : Int) (x6 : Int) (x7 : Int) (G : St) : Option (Int × St) :=
  wh (fun s => Wo_product_s142 P W x5 x6 s.1 s.2) (x7, G)
theorem Wo_product_l142_eq (P W : Int) (x5 : Int) (x6 : Int) (x7 : Int) (G : St) : Wo_product_l142 P W x5 x6 x7 G = (Wo_product_s142 P W x5 x6 x7 G).bind (lk (fun s => Wo_product_l142 P W x5 x6 s.1 s.2) some) := by
  exact wh_eq _ _
noncomputable def Wo_product_s57 (P W : Int) (x1 : Int) (x2 : Int) (x3 : Int) (x4 : Int) (x5 : Int) (x6 : Int) (x7 : Int) (x8 : Int) (G : St) : Option ((Int × St) ⊕ ((Int × St) ⊕ (Int × St))) :=
  ckI (W - x7) <| if x8 < (W - x7) then (ckI (x2 + x8) <| ckB (x2 + x8) (ialC P W x1) <| ckI (x4 + x7) <| ckB (x4 + x7) (ialC P W x3) <| bd (Ci_and (G x1 (x2 + x8)) (G x3 (x4 + x7)) G) fun z4 G5 =>
  ckB x8 40 <| tk (up G5 212 x8 z4) fun G6 =>
  ckI (x8 + 1) <| some (Sum.inl (x8 + 1, G6)))
  else (ex (ckI (W - x7) <| bd (Wo_sum P W 211 x7 212 0 0 (-2) (W - x7) 211 x7 G) fun _ G3 =>
  ckI (x7 + 1) <| some (Sum.inl (x7 + 1, G3))))
noncomputable def Wo_product_l57 (P W : Int) (x1 : Int) (x2 : Int) (x3 : Int) (x4 : Int) (x5 : Int) (x6 : Int) (x7 : Int) (x8 : Int) (G : St) : Option ((Int × St) ⊕ (Int × St)) :=
  wh (fun s => Wo_product_s57 P W x1 x2 x3 x4 x5 x6 x7 s.1 s.2) (x8, G)
theorem Wo_product_l57_eq (P W : Int) (x1 : Int) (x2 : Int) (x3 : Int) (x4 : Int) (x5 : Int) (x6 : Int) (x7 : Int) (x8 : Int) (G : St) : Wo_product_l57 P W x1 x2 x3 x4 x5 x6 x7 x8 G = (Wo_product_s57 P W x1 x2 x3 x4 x5 x6 x7 x8 G).bind (lk (fun s => Wo_product_l57 P W x1 x2 x3 x4 x5 x6 x7 s.1 s.2) some) := by
  exact wh_eq _ _
noncomputable def Wo_product_s45 (P W : Int) (x1 : Int) (x2 : Int) (x3 : Int) (x4 : Int) (x5 : Int) (x6 : Int) (x7 : Int) (G : St) : Option ((Int × St) ⊕ (Int × St)) :=
  if x7 < W then (Wo_product_l57 P W x1 x2 x3 x4 x5 x6 x7 0 G)
  else (ex (Wo_product_l142 P W x5 x6 0 G))
noncomputable def Wo_product_l45 (P W : Int) (x1 : Int) (x2 : Int) (x3 : Int) (x4 : Int) (x5 : Int) (x6 : Int) (x7 : Int) (G : St) : Option (Int × St) :=
  wh (fun s => Wo_product_s45 P W x1 x2 x3 x4 x5 x6 s.1 s.2) (x7, G)
theorem Wo_product_l45_eq (P W : Int) (x1 : Int) (x2 : Int) (x3 : Int) (x4 : Int) (x5 : Int) (x6 : Int) (x7 : Int) (G : St) : Wo_product_l45 P W x1 x2 x3 x4 x5 x6 x7 G = (Wo_product_s45 P W x1 x2 x3 x4 x5 x6 x7 G).bind (lk (fun s => Wo_product_l45 P W x1 x2 x3 x4 x5 x6 s.1 s.2) some) := by
  exact wh_eq _ _
noncomputable def Wo_product_s3 (P W : Int) (x1 : Int) (x2 : Int) (x3 : Int) (x4 : Int) (x5 : Int) (x6 : Int) (x7 : Int) (G : St) : Option ((Int × St) ⊕ (Int × St)) :=
  if x7 < W then (ckI (x2 + x7) <| ckB (x2 + x7) (ialC P W x1) <| ckB x4 (ialC P W x3) <| bd (Ci_and (G x1 (x2 + x7)) (G x3 x4) G) fun z7 G8 =>
  ckB x7 40 <| tk (up G8 211 x7 z7) fun G9 =>
  ckI (x7 + 1) <| some (Sum.inl (x7 + 1, G9)))
  else (ex (Wo_product_l45 P W x1 x2 x3 x4 x5 x6 1 G))
noncomputable def Wo_product_l3 (P W : Int) (x1 : Int) (x2 : Int) (x3 : Int) (x4 : Int) (x5 : Int) (x6 : Int) (x7 : Int) (G : St) : Option (Int × St) :=
  wh (fun s => Wo_product_s3 P W x1 x2 x3 x4 x5 x6 s.1 s.2) (x7, G)
theorem Wo_product_l3_eq (P W : Int) (x1 : Int) (x2 : Int) (x3 : Int) (x4 : Int) (x5 : Int) (x6 : Int) (x7 : Int) (G : St) : Wo_product_l3 P W x1 x2 x3 x4 x5 x6 x7 G = (Wo_product_s3 P W x1 x2 x3 x4 x5 x6 x7 G).bind (lk (fun s => Wo_product_l3 P W x1 x2 x3 x4 x5 x6 s.1 s.2) some) := by
  exact wh_eq _ _
noncomputable def Wo_product (P W : Int) (x1 : Int) (x2 : Int) (x3 : Int) (x4 : Int) (x5 : Int) (x6 : Int) (G : St) : Option (Int × St) :=
  Wo_product_l3 P W x1 x2 x3 x4 x5 x6 0 G
noncomputable def Wo_quotient_b316 (P W : Int) (x5 : Int) (x6 : Int) (x7 : Int) (x8 : Int) (s0 : Int) (s1 : Int) (s2 : Int) (G : St) : Option ((Int × St) ⊕ (Int × St)) :=
  ckB s1 (ialC P W s2) <| tk (up G s2 s1 s0) fun G1 =>
  ckI (x8 + 1) <| some (Sum.inl (x8 + 1, G1))
noncomputable def Wo_quotient_s278 (P W : Int) (x5 : Int) (x6 : Int) (x7 : Int) (x8 : Int) (G : St) : Option ((Int × St) ⊕ (Int × St)) :=
  if x8 < W then (ckI (x7 + x8) <| if x5 = 0 then (ckB x8 40 <| Wo_quotient_b316 P W x5 x6 x7 x8 (G 211 x8) (x7 + x8) x6 G)
  else (ckB x8 40 <| Wo_quotient_b316 P W x5 x6 x7 x8 (G 213 x8) (x7 + x8) x6 G))
  else (ex (some (0, G)))
noncomputable def Wo_quotient_l278 (P W : Int) (x5 : Int) (x6 : Int) (x7 : Int) (x8 : Int) (G : St) : Option (Int × St) :=
  wh (fun s => Wo_quotient_s278 P W x5 x6 x7 s.1 s.2) (x8, G)
theorem Wo_quotient_l278_eq (P W : Int) (x5 : Int) (x6 : Int) (x7 : Int) (x8 : Int) (G : St) : Wo_quotient_l278 P W x5 x6 x7 x8 G = (Wo_quotient_s278 P W x5 x6 x7 x8 G).bind (lk (fun s => Wo_quotient_l278 P W x5 x6 x7 s.1 s.2) some) := by
  exact wh_eq _ _
noncomputable def Wo_quotient_s224 (P W : Int) (x1 : Int) (x2 : Int) (x3 : Int) (x4 : Int) (x5 : Int) (x6 : Int) (x7 : Int) (x8 : Int) (x9 : Int) (x10 : Int) (G : St) : Option ((Int × St) ⊕ ((Int × St) ⊕ (Int × St))) :=
  if x10 < W then (ckB x10 40 <| ckB x10 40 <| bd (Ci_mux x9 (G 212 x10) (G 214 x10) G) fun z4 G5 =>
  ckB x10 40 <| tk (up G5 213 x10 z4) fun G6 =>
  ckI (x10 + 1) <| some (Sum.inl (x10 + 1, G6)))
  else (ex (ckI (x8 + (-1)) <| some (Sum.inl (x8 + (-1), G))))
noncomputable def Wo_quotient_l224 (P W : Int) (x1 : Int) (x2 : Int) (x3 : Int) (x4 : Int) (x5 : Int) (x6 : Int) (x7 : Int) (x8 : Int) (x9 : Int) (x10 : Int) (G : St) : Option ((Int × St) ⊕ (Int × St)) :=
  wh (fun s => Wo_quotient_s224 P W x1 x2 x3 x4 x5 x6 x7 x8 x9 s.1 s.2) (x10, G)
theorem Wo_quotient_l224_eq (P W : Int) (x1 : Int) (x2 : Int) (x3 : Int) (x4 : Int) (x5 : Int) (x6 : Int) (x7 : Int) (x8 : Int) (x9 : Int) (x10 : Int) (G : St) : Wo_quotient_l224 P W x1 x2 x3 x4 x5 x6 x7 x8 x9 x10 G = (Wo_quotient_s224 P W x1 x2 x3 x4 x5 x6 x7 x8 x9 x10 G).bind (lk (fun s => Wo_quotient_l224 P W x1 x2 x3 x4 x5 x6 x7 x8 x9 s.1 s.2) some) := by
  exact wh_eq _ _
noncomputable def Wo_quotient_b166 (P W : Int) (x1 : Int) (x2 : Int) (x3 : Int) (x4 : Int) (x5 : Int) (x6 : Int) (x7 : Int) (x8 : Int) (x9 : Int) (x10 : Int) (x11 : Int) (G : St) : Option ((Int × Int × St) ⊕ ((Int × St) ⊕ (Int × St))) :=
  ckB x10 40 <| bd (Ci_xor (G 214 x10) x9 G) fun z9 G10 =>
  bd (Ci_and z9 x11 G10) fun z11 G12 =>
  bd (Ci_xor x9 z11 G12) fun z13 G14 =>
  ckI (x10 + 1) <| some (Sum.inl (z13, x10 + 1, G14))
noncomputable def Wo_quotient_b127 (P W : Int) (x1 : Int) (x2 : Int) (x3 : Int) (x4 : Int) (x5 : Int) (x6 : Int) (x7 : Int) (x8 : Int) (x9 : Int) (x10 : Int) (s0 : Int) (G : St) : Option ((Int × Int × St) ⊕ ((Int × St) ⊕ (Int × St))) :=
  bd (Ci_xor s0 x9 G) fun z7 G8 =>
  if x10 < W then (ckB x10 40 <| bd (Ci_xor (G8 214 x10) z7 G8) fun z15 G16 =>
  ckB x10 40 <| tk (up G16 212 x10 z15) fun G17 =>
  Wo_quotient_b166 P W x1 x2 x3 x4 x5 x6 x7 x8 x9 x10 z7 G17)
  else (Wo_quotient_b166 P W x1 x2 x3 x4 x5 x6 x7 x8 x9 x10 z7 G8)
noncomputable def Wo_quotient_s92 (P W : Int) (x1 : Int) (x2 : Int) (x3 : Int) (x4 : Int) (x5 : Int) (x6 : Int) (x7 : Int) (x8 : Int) (x9 : Int) (x10 : Int) (G : St) : Option ((Int × Int × St) ⊕ ((Int × St) ⊕ (Int × St))) :=
  if W < x10 then (ex (ckB x8 40 <| tk (up G 211 x8 x9) fun G3 =>
  Wo_quotient_l224 P W x1 x2 x3 x4 x5 x6 x7 x8 x9 0 G3))
  else (if x10 < W then (ckI (x4 + x10) <| ckB (x4 + x10) (ialC P W x3) <| Wo_quotient_b127 P W x1 x2 x3 x4 x5 x6 x7 x8 x9 x10 (j_xo (G x3 (x4 + x10)) 1) G)
  else (Wo_quotient_b127 P W x1 x2 x3 x4 x5 x6 x7 x8 x9 x10 (-1) G))
noncomputable def Wo_quotient_l92 (P W : Int) (x1 : Int) (x2 : Int) (x3 : Int) (x4 : Int) (x5 : Int) (x6 : Int) (x7 : Int) (x8 : Int) (x9 : Int) (x10 : Int) (G : St) : Option ((Int × St) ⊕ (Int × St)) :=
  wh (fun s => Wo_quotient_s92 P W x1 x2 x3 x4 x5 x6 x7 x8 s.1 s.2.1 s.2.2) (x9, x10, G)
theorem Wo_quotient_l92_eq (P W : Int) (x1 : Int) (x2 : Int) (x3 : Int) (x4 : Int) (x5 : Int) (x6 : Int) (x7 : Int) (x8 : Int) (x9 : Int) (x10 : Int) (G : St) : Wo_quotient_l92 P W x1 x2 x3 x4 x5 x6 x7 x8 x9 x10 G = (Wo_quotient_s92 P W x1 x2 x3 x4 x5 x6 x7 x8 x9 x10 G).bind (lk (fun s => Wo_quotient_l92 P W x1 x2 x3 x4 x5 x6 x7 x8 s.1 s.2.1 s.2.2) some) := by
  exact wh_eq _ _
noncomputable def Wo_quotient_s55 (P W : Int) (x1 : Int) (x2 : Int) (x3 : Int) (x4 : Int) (x5 : Int) (x6 : Int) (x7 : Int) (x8 : Int) (x9 : Int) (G : St) : Option ((Int × St) ⊕ ((Int × St) ⊕ (Int × St))) :=
  if x9 < W then (ckI (x9 + 1) <| ckB x9 40 <| ckB (x9 + 1) 40 <| tk (up G 214 (x9 + 1) (G 213 x9)) fun G18 =>
  ckI (x9 + 1) <| some (Sum.inl (x9 + 1, G18)))
  else (ex (Wo_quotient_l92 P W x1 x2 x3 x4 x5 x6 x7 x8 (-1) 0 G))
noncomputable def Wo_quotient_l55 (P W : Int) (x1 : Int) (x2 : Int) (x3 : Int) (x4 : Int) (x5 : Int) (x6 : Int) (x7 : Int) (x8 : Int) (x9 : Int) (G : St) : Option ((Int × St) ⊕ (Int × St)) :=
  wh (fun s => Wo_quotient_s55 P W x1 x2 x3 x4 x5 x6 x7 x8 s.1 s.2) (x9, G)
theorem Wo_quotient_l55_eq (P W : Int) (x1 : Int) (x2 : Int) (x3 : Int) (x4 : Int) (x5 : Int) (x6 : Int) (x7 : Int) (x8 : Int) (x9 : Int) (G : St) : Wo_quotient_l55 P W x1 x2 x3 x4 x5 x6 x7 x8 x9 G = (Wo_quotient_s55 P W x1 x2 x3 x4 x5 x6 x7 x8 x9 G).bind (lk (fun s => Wo_quotient_l55 P W x1 x2 x3 x4 x5 x6 x7 x8 s.1 s.2) some) := by
  exact wh_eq _ _
noncomputable def Wo_quotient_s35 (P W : Int) (x1 : Int) (x2 : Int) (x3 : Int) (x4 : Int) (x5 : Int) (x6 : Int) (x7 : Int) (x8 : Int) (G : St) : Option ((Int × St) ⊕ (Int × St)) :=
  if x8 < 0 then (ex (Wo_quotient_l278 P W x5 x6 x7 0 G))
  else (ckI (x2 + x8) <| ckB (x2 + x8) (ialC P W x1) <| ckB 0 40 <| tk (up G 214 0 (G x1 (x2 + x8))) fun G2 =>
  Wo_quotient_l55 P W x1 x2 x3 x4 x5 x6 x7 x8 0 G2)
noncomputable def Wo_quotient_l35 (P W : Int) (x1 : Int) (x2 : Int) (x3 : Int) (x4 : Int) (x5 : Int) (x6 : Int) (x7 : Int) (x8 : Int) (G : St) : Option (Int × St) :=
  wh (fun s => Wo_quotient_s35 P W x1 x2 x3 x4 x5 x6 x7 s.1 s.2) (x8, G)
theorem Wo_quotient_l35_eq (P W : Int) (x1 : Int) (x2 : Int) (x3 : Int) (x4 : Int) (x5 : Int) (x6 : Int) (x7 : Int) (x8 : Int) (G : St) : Wo_quotient_l35 P W x1 x2 x3 x4 x5 x6 x7 x8 G = (Wo_quotient_s35 P W x1 x2 x3 x4 x5 x6 x7 x8 G).bind (lk (fun s => Wo_quotient_l35 P W x1 x2 x3 x4 x5 x6 x7 s.1 s.2) some) := by
  exact wh_eq _ _
noncomputable def Wo_quotient_s3 (P W : Int) (x1 : Int) (x2 : Int) (x3 : Int) (x4 : Int) (x5 : Int) (x6 : Int) (x7 : Int) (x8 : Int) (G : St) : Option ((Int × St) ⊕ (Int × St)) :=
  if x8 < W then (ckB x8 40 <| tk (up G 213 x8 (-2)) fun G19 =>
  ckI (x8 + 1) <| some (Sum.inl (x8 + 1, G19)))
  else (ex (ckI (W - 1) <| Wo_quotient_l35 P W x1 x2 x3 x4 x5 x6 x7 (W - 1) G))
noncomputable def Wo_quotient_l3 (P W : Int) (x1 : Int) (x2 : Int) (x3 : Int) (x4 : Int) (x5 : Int) (x6 : Int) (x7 : Int) (x8 : Int) (G : St) : Option (Int × St) :=
  wh (fun s => Wo_quotient_s3 P W x1 x2 x3 x4 x5 x6 x7 s.1 s.2) (x8, G)
theorem Wo_quotient_l3_eq (P W : Int) (x1 : Int) (x2 : Int) (x3 : Int) (x4 : Int) (x5 : Int) (x6 : Int) (x7 : Int) (x8 : Int) (G : St) : Wo_quotient_l3 P W x1 x2 x3 x4 x5 x6 x7 x8 G = (Wo_quotient_s3 P W x1 x2 x3 x4 x5 x6 x7 x8 G).bind (lk (fun s => Wo_quotient_l3 P W x1 x2 x3 x4 x5 x6 x7 s.1 s.2) some) := by
  exact wh_eq _ _
noncomputable def Wo_quotient (P W : Int) (x1 : Int) (x2 : Int) (x3 : Int) (x4 : Int) (x5 : Int) (x6 : Int) (x7 : Int) (G : St) : Option (Int × St) :=
  Wo_quotient_l3 P W x1 x2 x3 x4 x5 x6 x7 0 G
noncomputable def Bd_operator_b419 (P W : Int) (x1 : Int) (x2 : Int) (G : St) : Option (Int × St) :=
  bd (Bd_shift P W x1 x2 G) fun _ G6 =>
  some (0, G6)
noncomputable def Bd_operator_b307 (P W : Int) (s0 : Int) (s1 : Int) (s2 : Int) (s4 : Int) (G : St) : Option (Int × St) :=
  bd (Wo_sum P W 181 s4 181 s2 s1 s0 W 207 0 G) fun _ G8 =>
  bd (Bd_settle P W 2 W G8) fun _ G10 =>
  some (0, G10)
noncomputable def Bd_operator_b278 (P W : Int) (x2 : Int) (x3 : Int) (s0 : Int) (G : St) : Option (Int × St) :=
  Bd_operator_b307 P W (if s0 = 0 then (-2) else (-1)) s0 x3 x2 G
noncomputable def Bd_operator_b258 (P W : Int) (x1 : Int) (x2 : Int) (x3 : Int) (G : St) : Option (Int × St) :=
  ckB x1 12000 <| ckB (G 111 x1) 61 <| ckB 52 61 <| if (G 111 x1) = 52 then (Bd_operator_b278 P W x2 x3 1 G)
  else (Bd_operator_b278 P W x2 x3 0 G)
noncomputable def Bd_operator_b331 (P W : Int) (x2 : Int) (x3 : Int) (G : St) : Option (Int × St) :=
  bd (Wo_product P W 181 x2 181 x3 207 0 G) fun _ G12 =>
  bd (Bd_settle P W 2 W G12) fun _ G14 =>
  some (0, G14)
noncomputable def Bd_operator_b399 (P W : Int) (s0 : Int) (s1 : Int) (s3 : Int) (G : St) : Option (Int × St) :=
  bd (Wo_quotient P W 181 s3 181 s1 s0 207 0 G) fun _ G16 =>
  bd (Bd_settle P W 2 W G16) fun _ G18 =>
  some (0, G18)
noncomputable def Bd_operator_b365 (P W : Int) (x1 : Int) (x2 : Int) (x3 : Int) (G : St) : Option (Int × St) :=
  ckB x1 12000 <| ckB (G 111 x1) 61 <| ckB 55 61 <| if (G 111 x1) = 55 then (Bd_operator_b399 P W 1 x3 x2 G)
  else (Bd_operator_b399 P W 0 x3 x2 G)
noncomputable def Bd_operator_b88 (P W : Int) (x3 : Int) (G : St) : Option (Int × St) :=
  bd (Wo_sum P W 206 0 181 x3 1 (-1) W 207 0 G) fun _ G20 =>
  bd (Bd_settle P W 1 W G20) fun _ G22 =>
  some (0, G22)
noncomputable def Bd_operator_s131 (P W : Int) (x3 : Int) (x4 : Int) (G : St) : Option ((Int × St) ⊕ (Int × St)) :=
  if x4 < W then (ckI (x3 + x4) <| ckB (x3 + x4) (W * 4000) <| ckB (x3 + x4) (W * 4000) <| tk (up G 181 (x3 + x4) (j_xo (G 181 (x3 + x4)) 1)) fun G23 =>
  ckI (x4 + 1) <| some (Sum.inl (x4 + 1, G23)))
  else (ex (some (0, G)))
noncomputable def Bd_operator_l131 (P W : Int) (x3 : Int) (x4 : Int) (G : St) : Option (Int × St) :=
  wh (fun s => Bd_operator_s131 P W x3 s.1 s.2) (x4, G)
theorem Bd_operator_l131_eq (P W : Int) (x3 : Int) (x4 : Int) (G : St) : Bd_operator_l131 P W x3 x4 G = (Bd_operator_s131 P W x3 x4 G).bind (lk (fun s => Bd_operator_l131 P W x3 s.1 s.2) some) := by
  exact wh_eq _ _
noncomputable def Bd_operator_b128 (P W : Int) (x3 : Int) (G : St) : Option (Int × St) :=
  Bd_operator_l131 P W x3 0 G
noncomputable def Bd_operator_b162 (P W : Int) (x3 : Int) (G : St) : Option (Int × St) :=
  ckB x3 (W * 4000) <| ckB x3 (W * 4000) <| tk (up G 181 x3 (j_xo (G 181 x3) 1)) fun G24 =>
  some (0, G24)
noncomputable def Bd_operator_s193 (P W : Int) (x2 : Int) (x3 : Int) (x4 : Int) (x5 : Int) (G : St) : Option ((Int × St) ⊕ (Int × St)) :=
  if x5 < x4 then (bd (Bd_place P W 3 G) fun z29 G30 =>
  ckB z29 (W * 4000) <| ckI (x2 + x5) <| ckB (x2 + x5) (W * 4000) <| ckI (x3 + x5) <| ckB (x3 + x5) (W * 4000) <| bd (Ci_mux (G30 181 z29) (G30 181 (x2 + x5)) (G30 181 (x3 + x5)) G30) fun z31 G32 =>
  ckB x5 W <| tk (up G32 207 x5 z31) fun G33 =>
  ckI (x5 + 1) <| some (Sum.inl (x5 + 1, G33)))
  else (ex (bd (Bd_settle P W 3 x4 G) fun _ G28 =>
  some (0, G28)))
noncomputable def Bd_operator_l193 (P W : Int) (x2 : Int) (x3 : Int) (x4 : Int) (x5 : Int) (G : St) : Option (Int × St) :=
  wh (fun s => Bd_operator_s193 P W x2 x3 x4 s.1 s.2) (x5, G)
theorem Bd_operator_l193_eq (P W : Int) (x2 : Int) (x3 : Int) (x4 : Int) (x5 : Int) (G : St) : Bd_operator_l193 P W x2 x3 x4 x5 G = (Bd_operator_s193 P W x2 x3 x4 x5 G).bind (lk (fun s => Bd_operator_l193 P W x2 x3 x4 s.1 s.2) some) := by
  exact wh_eq _ _
noncomputable def Bd_operator_b175 (P W : Int) (x1 : Int) (x2 : Int) (x3 : Int) (G : St) : Option (Int × St) :=
  ckB x1 12000 <| bd (Bd_bits P W (G 114 x1) G) fun z25 G26 =>
  Bd_operator_l193 P W x2 x3 z25 0 G26
noncomputable def Bd_operator_b431 (P W : Int) (x1 : Int) (x2 : Int) (x3 : Int) (G : St) : Option (Int × St) :=
  bd (Bd_bitwise P W x1 x2 x3 G) fun _ G35 =>
  some (0, G35)
noncomputable def Bd_operator (P W : Int) (x1 : Int) (G : St) : Option (Int × St) :=
  bd (Bd_place P W 2 G) fun z1 G2 =>
  bd (Bd_place P W 1 G2) fun z3 G4 =>
  ckB x1 12000 <| ckB (G4 111 x1) 61 <| swt (G4 111 x1) 49 [Bd_operator_b419 P W x1 z1 G4, Bd_operator_b419 P W x1 z1 G4, Bd_operator_b258 P W x1 z1 z3 G4, Bd_operator_b258 P W x1 z1 z3 G4, Bd_operator_b331 P W z1 z3 G4, Bd_operator_b365 P W x1 z1 z3 G4, Bd_operator_b365 P W x1 z1 z3 G4, Bd_operator_b88 P W z3 G4, Bd_operator_b128 P W z3 G4, Bd_operator_b162 P W z3 G4, Bd_operator_b175 P W x1 z1 z3 G4, some (0, G4)] (Bd_operator_b431 P W x1 z1 z3 G4)
noncomputable def Bd_assign_b239 (P W : Int) (G : St) : Option (Int × St) :=
  ckI ((G 180 6) - 2) <| tk (up G 180 6 ((G 180 6) - 2)) fun G7 =>
  some (0, G7)
noncomputable def Bd_assign_s166 (P W : Int) (x2 : Int) (x3 : Int) (x4 : Int) (x5 : Int) (x6 : Int) (x7 : Int) (x8 : Int) (x9 : Int) (G : St) : Option ((Int × St) ⊕ ((Int × St) ⊕ (Int × St))) :=
  if x9 < x2 then (ckI (x4 + x7) <| ckI (W * (x4 + x7)) <| ckI ((W * (x4 + x7)) + x9) <| ckI (x5 + x9) <| ckB (x5 + x9) (W * 4000) <| ckI (x4 + x7) <| ckI (W * (x4 + x7)) <| ckI ((W * (x4 + x7)) + x9) <| ckB ((W * (x4 + x7)) + x9) (W * 256) <| bd (Ci_mux x8 (G 181 (x5 + x9)) (G 185 ((W * (x4 + x7)) + x9)) G) fun z10 G11 =>
  ckB ((W * (x4 + x7)) + x9) (W * 256) <| tk (up G11 185 ((W * (x4 + x7)) + x9) z10) fun G12 =>
  ckI (x9 + 1) <| some (Sum.inl (x9 + 1, G12)))
  else (ex (ckI (x7 + 1) <| some (Sum.inl (x7 + 1, G))))
noncomputable def Bd_assign_l166 (P W : Int) (x2 : Int) (x3 : Int) (x4 : Int) (x5 : Int) (x6 : Int) (x7 : Int) (x8 : Int) (x9 : Int) (G : St) : Option ((Int × St) ⊕ (Int × St)) :=
  wh (fun s => Bd_assign_s166 P W x2 x3 x4 x5 x6 x7 x8 s.1 s.2) (x9, G)
theorem Bd_assign_l166_eq (P W : Int) (x2 : Int) (x3 : Int) (x4 : Int) (x5 : Int) (x6 : Int) (x7 : Int) (x8 : Int) (x9 : Int) (G : St) : Bd_assign_l166 P W x2 x3 x4 x5 x6 x7 x8 x9 G = (Bd_assign_s166 P W x2 x3 x4 x5 x6 x7 x8 x9 G).bind (lk (fun s => Bd_assign_l166 P W x2 x3 x4 x5 x6 x7 x8 s.1 s.2) some) := by
  exact wh_eq _ _
noncomputable def Bd_assign_s147 (P W : Int) (x2 : Int) (x3 : Int) (x4 : Int) (x5 : Int) (x6 : Int) (x7 : Int) (G : St) : Option ((Int × St) ⊕ (Int × St)) :=
  if x7 < x3 then (bd (Bd_isElement P W x6 x7 G) fun z8 G9 =>
  Bd_assign_l166 P W x2 x3 x4 x5 x6 x7 z8 0 G9)
  else (ex (Bd_assign_b239 P W G))
noncomputable def Bd_assign_l147 (P W : Int) (x2 : Int) (x3 : Int) (x4 : Int) (x5 : Int) (x6 : Int) (x7 : Int) (G : St) : Option (Int × St) :=
  wh (fun s => Bd_assign_s147 P W x2 x3 x4 x5 x6 s.1 s.2) (x7, G)
theorem Bd_assign_l147_eq (P W : Int) (x2 : Int) (x3 : Int) (x4 : Int) (x5 : Int) (x6 : Int) (x7 : Int) (G : St) : Bd_assign_l147 P W x2 x3 x4 x5 x6 x7 G = (Bd_assign_s147 P W x2 x3 x4 x5 x6 x7 G).bind (lk (fun s => Bd_assign_l147 P W x2 x3 x4 x5 x6 s.1 s.2) some) := by
  exact wh_eq _ _
noncomputable def Bd_assign (P W : Int) (x1 : Int) (G : St) : Option (Int × St) :=
  ckB x1 12000 <| bd (Bd_bits P W (j_an (G 114 x1) 1) G) fun z1 G2 =>
  ckB x1 12000 <| ckD (G2 114 x1) 512 <| ckB x1 12000 <| if ((G2 114 x1) / 512) = 0 then (ckI ((G2 180 6) - 1) <| tk (up G2 180 6 ((G2 180 6) - 1)) fun G16 =>
  ckI (W * (G16 180 6)) <| ckI (W * (G2 112 x1)) <| ckA (W * (G16 180 6)) z1 (W * 4000) <| ckA (W * (G2 112 x1)) z1 (W * 256) <| tk (acp G16 181 (W * (G16 180 6)) 185 (W * (G2 112 x1)) z1) fun G17 =>
  some (0, G17))
  else (bd (Bd_place P W 1 G2) fun z3 G4 =>
  bd (Bd_place P W 2 G4) fun z5 G6 =>
  ckB x1 12000 <| if (j_an (G6 114 x1) 2) = 0 then (Bd_assign_l147 P W z1 ((G2 114 x1) / 512) (G2 112 x1) z3 z5 0 G6)
  else (bd (Bd_valueOf P W z5 G6) fun z13 G14 =>
  ckI ((G2 112 x1) + (w32 z13)) <| ckI (W * ((G2 112 x1) + (w32 z13))) <| ckA z3 z1 (W * 4000) <| ckA (W * ((G2 112 x1) + (w32 z13))) z1 (W * 256) <| tk (acp G14 181 z3 185 (W * ((G2 112 x1) + (w32 z13))) z1) fun G15 =>
  Bd_assign_b239 P W G15))
noncomputable def Bd_back (P W : Int) (G : St) : Option (Int × St) :=
  ckI ((G 180 29) - 1) <| tk (up G 180 29 ((G 180 29) - 1)) fun G1 =>
  ckI ((G1 180 6) - 1) <| ckI (W * ((G1 180 6) - 1)) <| ckB (G1 180 29) 4000 <| tk (up G1 180 6 (G1 202 (G1 180 29))) fun G2 =>
  ckI (W * (G2 180 6)) <| ckA (W * ((G1 180 6) - 1)) W (W * 4000) <| ckA (W * (G2 180 6)) W (W * 4000) <| tk (acp G2 181 (W * ((G1 180 6) - 1)) 181 (W * (G2 180 6)) W) fun G3 =>
  ckI ((G3 180 6) + 1) <| tk (up G3 180 6 ((G3 180 6) + 1)) fun G4 =>
  ckB (G4 180 29) 4000 <| tk (up G4 180 7 (G4 201 (G4 180 29))) fun G5 =>
  some (0, G5)
noncomputable def Bd_input_s39 (P W : Int) (x1 : Int) (x2 : Int) (x3 : Int) (x4 : Int) (G : St) : Option ((Int × St) ⊕ (Int × St)) :=
  if x4 < x3 then (ckB (G 180 13) 256 <| tk (up G 182 (G 180 13) (G 180 14)) fun G4 =>
  ckB (G4 180 13) 256 <| tk (up G4 183 (G4 180 13) x2) fun G5 =>
  ckB x1 12000 <| ckD (G5 114 x1) 256 <| ckB (G5 180 13) 256 <| tk (up G5 184 (G5 180 13) ((G5 114 x1) / 256)) fun G6 =>
  ckI ((G6 180 13) + 1) <| tk (up G6 180 13 ((G6 180 13) + 1)) fun G7 =>
  ckI ((G7 180 14) + x2) <| tk (up G7 180 14 ((G7 180 14) + x2)) fun G8 =>
  ckI (x4 + 1) <| some (Sum.inl (x4 + 1, G8)))
  else (ex (some (0, G)))
noncomputable def Bd_input_l39 (P W : Int) (x1 : Int) (x2 : Int) (x3 : Int) (x4 : Int) (G : St) : Option (Int × St) :=
  wh (fun s => Bd_input_s39 P W x1 x2 x3 s.1 s.2) (x4, G)
theorem Bd_input_l39_eq (P W : Int) (x1 : Int) (x2 : Int) (x3 : Int) (x4 : Int) (G : St) : Bd_input_l39 P W x1 x2 x3 x4 G = (Bd_input_s39 P W x1 x2 x3 x4 G).bind (lk (fun s => Bd_input_l39 P W x1 x2 x3 s.1 s.2) some) := by
  exact wh_eq _ _
noncomputable def Bd_input (P W : Int) (x1 : Int) (G : St) : Option (Int × St) :=
  ckB x1 12000 <| bd (Bd_bits P W (j_an (G 114 x1) 1) G) fun z1 G2 =>
  ckB x1 12000 <| ckD (G2 114 x1) 256 <| ckD ((G2 114 x1) % 256) 2 <| vl (if 1 < (((G2 114 x1) % 256) / 2) then (((G2 114 x1) % 256) / 2) else 1) fun v3 =>
  Bd_input_l39 P W x1 z1 v3 0 G2
noncomputable def Bd_loop_b60 (P W : Int) (x1 : Int) (x2 : Int) (x4 : Int) (G : St) : Option (Int × St) :=
  ckB x1 12000 <| ckB (G 112 x1) 31 <| tk (up G 198 (G 112 x1) x2) fun G10 =>
  ckB (G 112 x1) 31 <| tk (up G10 199 (G 112 x1) x4) fun G11 =>
  if x4 < x2 then (ckB x1 12000 <| ckI ((G11 114 x1) + 1) <| tk (up G11 180 7 ((G11 114 x1) + 1)) fun G12 =>
  some (0, G12))
  else (some (0, G11))
noncomputable def Bd_loop (P W : Int) (x1 : Int) (G : St) : Option (Int × St) :=
  bd (Bd_place P W 2 G) fun z1 G2 =>
  bd (Bd_valueOf P W z1 G2) fun z3 G4 =>
  bd (Bd_place P W 1 G4) fun z5 G6 =>
  bd (Bd_valueOf P W z5 G6) fun z7 G8 =>
  ckI ((G8 180 6) - 2) <| tk (up G8 180 6 ((G8 180 6) - 2)) fun G9 =>
  ckL (z7 - z3) <| if (z7 - z3) < 256 then (Bd_loop_b60 P W x1 z3 z7 G9)
  else (ckB x1 12000 <| bd (Ft_set 7 (G9 113 x1) G9) fun _ G14 =>
  Bd_loop_b60 P W x1 z3 z7 G14)
noncomputable def Bd_merge_s40 (P W : Int) (x1 : Int) (x2 : Int) (G : St) : Option ((Int × St) ⊕ ((Int × St) ⊕ (Int × St))) :=
  ckB x1 256 <| if x2 < (G 186 x1) then (ckI (W * x1) <| ckI ((W * x1) + x2) <| ckB (G 180 22) 31 <| ckB (G 180 22) 31 <| ckB ((W * x1) + x2) (ialC P W (G 197 (G 180 22))) <| ckB ((W * x1) + x2) (W * 256) <| bd (Ci_mux (G 187 (G 180 22)) (G (G 197 (G 180 22)) ((W * x1) + x2)) (G 185 ((W * x1) + x2)) G) fun z3 G4 =>
  ckB ((W * x1) + x2) (W * 256) <| tk (up G4 185 ((W * x1) + x2) z3) fun G5 =>
  ckI (x2 + 1) <| some (Sum.inl (x2 + 1, G5)))
  else (ex (ckI (x1 + 1) <| some (Sum.inl (x1 + 1, G))))
noncomputable def Bd_merge_l40 (P W : Int) (x1 : Int) (x2 : Int) (G : St) : Option ((Int × St) ⊕ (Int × St)) :=
  wh (fun s => Bd_merge_s40 P W x1 s.1 s.2) (x2, G)
theorem Bd_merge_l40_eq (P W : Int) (x1 : Int) (x2 : Int) (G : St) : Bd_merge_l40 P W x1 x2 G = (Bd_merge_s40 P W x1 x2 G).bind (lk (fun s => Bd_merge_l40 P W x1 s.1 s.2) some) := by
  exact wh_eq _ _
noncomputable def Bd_merge_s25 (P W : Int) (x1 : Int) (G : St) : Option ((Int × St) ⊕ (Int × St)) :=
  ckB (G 180 22) 31 <| if x1 < (G 188 (G 180 22)) then (Bd_merge_l40 P W x1 0 G)
  else (ex (some (0, G)))
noncomputable def Bd_merge_l25 (P W : Int) (x1 : Int) (G : St) : Option (Int × St) :=
  wh (fun s => Bd_merge_s25 P W s.1 s.2) (x1, G)
theorem Bd_merge_l25_eq (P W : Int) (x1 : Int) (G : St) : Bd_merge_l25 P W x1 G = (Bd_merge_s25 P W x1 G).bind (lk (fun s => Bd_merge_l25 P W s.1 s.2) some) := by
  exact wh_eq _ _
noncomputable def Bd_merge (P W : Int) (G : St) : Option (Int × St) :=
  ckI ((G 180 22) - 1) <| tk (up G 180 22 ((G 180 22) - 1)) fun G1 =>
  ckB (G1 180 22) 31 <| tk (up G1 180 9 (G1 189 (G1 180 22))) fun G2 =>
  Bd_merge_l25 P W 0 G2
noncomputable def Bd_open_b119 (P W : Int) (G : St) : Option (Int × St) :=
  ckB (G 180 22) 31 <| ckB (G 180 22) 31 <| ckI (W * (G 188 (G 180 22))) <| ckA 0 (W * (G 188 (G 180 22))) (W * 256) <| ckA 0 (W * (G 188 (G 180 22))) (ialC P W (G 196 (G 180 22))) <| tk (acp G 185 0 (G 196 (G 180 22)) 0 (W * (G 188 (G 180 22)))) fun G5 =>
  ckI ((G5 180 22) + 1) <| tk (up G5 180 22 ((G5 180 22) + 1)) fun G6 =>
  some (0, G6)
noncomputable def Bd_open (P W : Int) (x1 : Int) (G : St) : Option (Int × St) :=
  ckI ((G 180 6) - 1) <| tk (up G 180 6 ((G 180 6) - 1)) fun G1 =>
  ckI (W * (G1 180 6)) <| ckB (W * (G1 180 6)) (W * 4000) <| ckB (G1 180 22) 31 <| tk (up G1 187 (G1 180 22) (G1 181 (W * (G1 180 6)))) fun G2 =>
  ckB x1 12000 <| ckB (G2 180 22) 31 <| tk (up G2 188 (G2 180 22) (G2 112 x1)) fun G3 =>
  ckB x1 12000 <| ckB (G3 180 22) 31 <| tk (up G3 189 (G3 180 22) (G3 113 x1)) fun G4 =>
  ckB (G4 180 22) 31 <| if (G4 196 (G4 180 22)) < 0 then (ckI (W * 256) <| ckW P W G4 (600 + G4 180 22) (W * 256) <| tk (nwA G4 (600 + G4 180 22) (W * 256) 0) fun G7 =>
  ckB (G4 180 22) 31 <| ckB 0 (ialC P W (600 + G4 180 22)) <| tk (up G7 196 (G4 180 22) (600 + G4 180 22)) fun G8 =>
  ckI (W * 256) <| ckW P W G8 (700 + G8 180 22) (W * 256) <| tk (nwA G8 (700 + G8 180 22) (W * 256) 0) fun G9 =>
  ckB (G8 180 22) 31 <| ckB 0 (ialC P W (700 + G8 180 22)) <| tk (up G9 197 (G8 180 22) (700 + G8 180 22)) fun G10 =>
  Bd_open_b119 P W G10)
  else (Bd_open_b119 P W G4)
noncomputable def Bd_output (P W : Int) (x1 : Int) (G : St) : Option (Int × St) :=
  bd (Bd_bits P W x1 G) fun z1 G2 =>
  ckI ((G2 180 6) - 1) <| tk (up G2 180 6 ((G2 180 6) - 1)) fun G3 =>
  ckI (W * (G3 180 6)) <| ckI (W * (G3 180 32)) <| ckA (W * (G3 180 6)) z1 (W * 4000) <| ckA (W * (G3 180 32)) z1 (W * 500) <| tk (acp G3 181 (W * (G3 180 6)) 203 (W * (G3 180 32)) z1) fun G4 =>
  ckB (G4 180 32) 4000 <| tk (up G4 204 (G4 180 32) z1) fun G5 =>
  ckI ((G5 180 32) + 1) <| tk (up G5 180 32 ((G5 180 32) + 1)) fun G6 =>
  some (0, G6)
noncomputable def Bd_turnOver (P W : Int) (G : St) : Option (Int × St) :=
  ckI ((G 180 22) - 1) <| ckB ((G 180 22) - 1) 31 <| ckI (W * (G 188 ((G 180 22) - 1))) <| ckI ((G 180 22) - 1) <| ckB ((G 180 22) - 1) 31 <| ckA 0 (W * (G 188 ((G 180 22) - 1))) (W * 256) <| ckA 0 (W * (G 188 ((G 180 22) - 1))) (ialC P W (G 197 ((G 180 22) - 1))) <| tk (acp G 185 0 (G 197 ((G 180 22) - 1)) 0 (W * (G 188 ((G 180 22) - 1)))) fun G1 =>
  ckI ((G1 180 22) - 1) <| ckB ((G1 180 22) - 1) 31 <| ckA 0 (W * (G 188 ((G 180 22) - 1))) (ialC P W (G1 196 ((G1 180 22) - 1))) <| ckA 0 (W * (G 188 ((G 180 22) - 1))) (W * 256) <| tk (acp G1 (G1 196 ((G1 180 22) - 1)) 0 185 0 (W * (G 188 ((G 180 22) - 1)))) fun G2 =>
  some (0, G2)
noncomputable def Bd_variable_b132 (P W : Int) (x1 : Int) (x2 : Int) (x3 : Int) (x4 : Int) (x5 : Int) (x6 : Int) (s0 : Int) (s1 : Int) (G : St) : Option ((Int × St) ⊕ (Int × St)) :=
  ckI (W * x6) <| ckA s0 x2 (ialC P W s1) <| ckA (W * x6) x2 (W * 256) <| tk (acp G s1 s0 185 (W * x6) x2) fun G5 =>
  ckI (x5 + 1) <| some (Sum.inl (x5 + 1, G5))
noncomputable def Bd_variable_b114 (P W : Int) (x1 : Int) (x2 : Int) (x3 : Int) (x4 : Int) (x5 : Int) (x6 : Int) (s0 : Int) (G : St) : Option ((Int × St) ⊕ (Int × St)) :=
  if x4 = 0 then (Bd_variable_b132 P W x1 x2 x3 x4 x5 x6 0 s0 G)
  else (ckI (W * (G 180 6)) <| Bd_variable_b132 P W x1 x2 x3 x4 x5 x6 (W * (G 180 6)) s0 G)
noncomputable def Bd_variable_s70 (P W : Int) (x1 : Int) (x2 : Int) (x3 : Int) (x4 : Int) (x5 : Int) (G : St) : Option ((Int × St) ⊕ (Int × St)) :=
  if x5 < x3 then (ckB x1 12000 <| ckI ((G 112 x1) + x5) <| ckB ((G 112 x1) + x5) 256 <| tk (up G 186 ((G 112 x1) + x5) x2) fun G4 =>
  Bd_variable_b114 P W x1 x2 x3 x4 x5 ((G 112 x1) + x5) (if x4 = 0 then 206 else 181) G4)
  else (ex (some (0, G)))
noncomputable def Bd_variable_l70 (P W : Int) (x1 : Int) (x2 : Int) (x3 : Int) (x4 : Int) (x5 : Int) (G : St) : Option (Int × St) :=
  wh (fun s => Bd_variable_s70 P W x1 x2 x3 x4 s.1 s.2) (x5, G)
theorem Bd_variable_l70_eq (P W : Int) (x1 : Int) (x2 : Int) (x3 : Int) (x4 : Int) (x5 : Int) (G : St) : Bd_variable_l70 P W x1 x2 x3 x4 x5 G = (Bd_variable_s70 P W x1 x2 x3 x4 x5 G).bind (lk (fun s => Bd_variable_l70 P W x1 x2 x3 x4 s.1 s.2) some) := by
  exact wh_eq _ _
noncomputable def Bd_variable_b67 (P W : Int) (x1 : Int) (x2 : Int) (x3 : Int) (x4 : Int) (G : St) : Option (Int × St) :=
  Bd_variable_l70 P W x1 x2 x3 x4 0 G
noncomputable def Bd_variable_b50 (P W : Int) (x1 : Int) (x2 : Int) (x3 : Int) (s0 : Int) (G : St) : Option (Int × St) :=
  if s0 = 0 then (Bd_variable_b67 P W x1 x2 x3 s0 G)
  else (ckI ((G 180 6) - 1) <| tk (up G 180 6 ((G 180 6) - 1)) fun G6 =>
  Bd_variable_b67 P W x1 x2 x3 s0 G6)
noncomputable def Bd_variable (P W : Int) (x1 : Int) (G : St) : Option (Int × St) :=
  ckB x1 12000 <| bd (Bd_bits P W (j_an (G 114 x1) 1) G) fun z1 G2 =>
  ckB x1 12000 <| ckD (G2 114 x1) 2 <| vl (if 1 < ((G2 114 x1) / 2) then ((G2 114 x1) / 2) else 1) fun v3 =>
  ckB x1 12000 <| Bd_variable_b50 P W x1 z1 v3 (if (G2 113 x1) = 1 then 1 else 0) G2
noncomputable def Bd_statement_b108 (P W : Int) (x1 : Int) (G : St) : Option (Int × St) :=
  bd (Bd_input P W x1 G) fun _ G2 =>
  some (0, G2)
noncomputable def Bd_statement_b116 (P W : Int) (x1 : Int) (G : St) : Option (Int × St) :=
  ckB (G 180 28) 4000 <| tk (up G 200 (G 180 28) (G 180 7)) fun G3 =>
  ckI ((G3 180 28) + 1) <| tk (up G3 180 28 ((G3 180 28) + 1)) fun G4 =>
  ckB x1 12000 <| ckI ((G4 114 x1) + 1) <| tk (up G4 180 7 ((G4 114 x1) + 1)) fun G5 =>
  some (0, G5)
noncomputable def Bd_statement_b157 (P W : Int) (G : St) : Option (Int × St) :=
  bd (Bd_back P W G) fun _ G7 =>
  some (0, G7)
noncomputable def Bd_statement_b164 (P W : Int) (x1 : Int) (G : St) : Option (Int × St) :=
  ckB x1 12000 <| tk (up G 180 9 (G 113 x1)) fun G8 =>
  bd (Bd_count G8) fun _ G10 =>
  some (0, G10)
noncomputable def Bd_statement_b184 (P W : Int) (x1 : Int) (G : St) : Option (Int × St) :=
  ckB x1 12000 <| bd (Bd_output P W (G 114 x1) G) fun _ G12 =>
  some (0, G12)
noncomputable def Bd_statement_b200 (P W : Int) (x1 : Int) (G : St) : Option (Int × St) :=
  bd (Bd_variable P W x1 G) fun _ G14 =>
  some (0, G14)
noncomputable def Bd_statement_b208 (P W : Int) (x1 : Int) (G : St) : Option (Int × St) :=
  ckB x1 12000 <| if (j_an (G 114 x1) 2) = 0 then (some (0, G))
  else (bd (Bd_place P W 1 G) fun z15 G16 =>
  bd (Bd_valueOf P W z15 G16) fun z17 G18 =>
  ckB x1 12000 <| ckD (G18 114 x1) 512 <| ckB x1 12000 <| bd (Bd_needBelow z17 ((G18 114 x1) / 512) (G18 113 x1) G18) fun _ G20 =>
  some (0, G20))
noncomputable def Bd_statement_b260 (P W : Int) (x1 : Int) (G : St) : Option (Int × St) :=
  bd (Bd_assign P W x1 G) fun _ G22 =>
  some (0, G22)
noncomputable def Bd_statement_b268 (P W : Int) (x1 : Int) (G : St) : Option (Int × St) :=
  bd (Bd_open P W x1 G) fun _ G24 =>
  some (0, G24)
noncomputable def Bd_statement_b276 (P W : Int) (G : St) : Option (Int × St) :=
  bd (Bd_turnOver P W G) fun _ G26 =>
  some (0, G26)
noncomputable def Bd_statement_b283 (P W : Int) (G : St) : Option (Int × St) :=
  bd (Bd_merge P W G) fun _ G28 =>
  some (0, G28)
noncomputable def Bd_statement_b290 (P W : Int) (x1 : Int) (G : St) : Option (Int × St) :=
  bd (Bd_loop P W x1 G) fun _ G30 =>
  some (0, G30)
noncomputable def Bd_statement_b298 (P W : Int) (x1 : Int) (G : St) : Option (Int × St) :=
  ckB x1 12000 <| ckB (G 112 x1) 31 <| ckB (G 112 x1) 31 <| if (G 198 (G 112 x1)) < (G 199 (G 112 x1)) then (ckB (G 112 x1) 31 <| ckL ((G 198 (G 112 x1)) + 1) <| ckB (G 112 x1) 31 <| tk (up G 198 (G 112 x1) ((G 198 (G 112 x1)) + 1)) fun G31 =>
  ckB x1 12000 <| ckI ((G31 114 x1) + 1) <| tk (up G31 180 7 ((G31 114 x1) + 1)) fun G32 =>
  some (0, G32))
  else (some (0, G))
noncomputable def Bd_statement (P W : Int) (x1 : Int) (G : St) : Option (Int × St) :=
  ckB x1 12000 <| ckB (G 111 x1) 61 <| swt (G 111 x1) 0 [Bd_statement_b108 P W x1 G, Bd_statement_b116 P W x1 G, some (0, G), Bd_statement_b157 P W G, Bd_statement_b164 P W x1 G, Bd_statement_b184 P W x1 G, Bd_statement_b164 P W x1 G, some (0, G), Bd_statement_b200 P W x1 G, some (0, G), some (0, G), Bd_statement_b208 P W x1 G, Bd_statement_b260 P W x1 G, Bd_statement_b268 P W x1 G, Bd_statement_b276 P W G, Bd_statement_b283 P W G, some (0, G), some (0, G), Bd_statement_b290 P W x1 G, Bd_statement_b298 P W x1 G] (some (0, G))
noncomputable def Bd_step (P W : Int) (x1 : Int) (G : St) : Option (Int × St) :=
  ckB x1 12000 <| ckB (G 111 x1) 61 <| ckB 38 61 <| if (G 111 x1) < 38 then (ckB (G 111 x1) 61 <| ckB 22 61 <| if (G 111 x1) < 22 then (bd (Bd_statement P W x1 G) fun _ G2 =>
  some (0, G2))
  else (bd (Bd_factor P W x1 G) fun _ G4 =>
  some (0, G4)))
  else (bd (Bd_operator P W x1 G) fun _ G6 =>
  some (0, G6))
noncomputable def Ci_clear (x1 : Int) (G : St) : Option (Int × St) :=
  tk (up G 140 4 0) fun G1 =>
  tk (up G1 140 5 0) fun G2 =>
  tk (up G2 140 7 0) fun G3 =>
  tk (up G3 140 6 x1) fun G4 =>
  ckB 0 2 <| tk (up G4 140 8 0) fun G5 =>
  some (0, G5)
noncomputable def Bd_build_s58 (P W : Int) (G : St) : Option ((St) ⊕ (Int × St)) :=
  if (G 180 7) < (G 110 4) then (bd (Ft_is G) fun z13 G14 =>
  if z13 = 0 then (ckI ((G14 180 7) + 1) <| tk (up G14 180 7 ((G14 180 7) + 1)) fun G15 =>
  bd (Bd_step P W (G14 180 7) G15) fun _ G17 =>
  if (G17 140 8) = 0 then (some (Sum.inl (G17)))
  else (bd (Ft_set 8 (G17 180 9) G17) fun _ G19 =>
  some (Sum.inl (G19))))
  else (ex (some (0, G14))))
  else (ex (some (0, G)))
noncomputable def Bd_build_l58 (P W : Int) (G : St) : Option (Int × St) :=
  wh (fun s => Bd_build_s58 P W s) (G)
theorem Bd_build_l58_eq (P W : Int) (G : St) : Bd_build_l58 P W G = (Bd_build_s58 P W G).bind (lk (fun s => Bd_build_l58 P W s) some) := by
  exact wh_eq _ _
noncomputable def Bd_build (P W : Int) (x1 : Int) (G : St) : Option (Int × St) :=
  bd (Ci_clear x1 G) fun _ G2 =>
  tk (up G2 180 6 0) fun G3 =>
  tk (up G3 180 8 0) fun G4 =>
  tk (up G4 180 9 0) fun G5 =>
  tk (up G5 180 13 0) fun G6 =>
  tk (up G6 180 14 0) fun G7 =>
  tk (up G7 180 22 0) fun G8 =>
  tk (up G8 180 28 0) fun G9 =>
  tk (up G9 180 29 0) fun G10 =>
  tk (up G10 180 32 0) fun G11 =>
  tk (up G11 180 7 0) fun G12 =>
  Bd_build_l58 P W G12
noncomputable def Ck_become (x1 : Int) (x2 : Int) (G : St) : Option (Int × St) :=
  ckI ((G 160 6) - 1) <| ckB ((G 160 6) - 1) 12000 <| tk (up G 161 ((G 160 6) - 1) x1) fun G1 =>
  ckI ((G1 160 6) - 1) <| ckB ((G1 160 6) - 1) 12000 <| ckB x2 2 <| tk (up G1 163 ((G1 160 6) - 1) x2) fun G2 =>
  some (0, G2)
noncomputable def Ck_push (x1 : Int) (x2 : Int) (x3 : Int) (G : St) : Option (Int × St) :=
  ckB (G 160 6) 12000 <| tk (up G 161 (G 160 6) x1) fun G1 =>
  ckB (G1 160 6) 12000 <| ckB x2 2 <| tk (up G1 163 (G1 160 6) x2) fun G2 =>
  ckB (G2 160 6) 12000 <| tk (up G2 162 (G2 160 6) x3) fun G3 =>
  ckI ((G3 160 6) + 1) <| tk (up G3 160 6 ((G3 160 6) + 1)) fun G4 =>
  some (0, G4)
noncomputable def Sc_find_b42 (x1 : Int) (x2 : Int) (x3 : Int) (G : St) : Option ((Int × St) ⊕ (Int × St)) :=
  ckI (x3 + (-1)) <| some (Sum.inl (x3 + (-1), G))
noncomputable def Sc_find_b40 (x3 : Int) (G : St) : Option (Int × St) :=
  some (x3, G)
noncomputable def Sc_find_s7 (x1 : Int) (x2 : Int) (x3 : Int) (G : St) : Option ((Int × St) ⊕ (Int × St)) :=
  if x3 < 0 then (ex (some ((-1), G)))
  else (ckB x3 4000 <| if (G 191 x3) = x1 then (if x2 < 0 then (ex (Sc_find_b40 x3 G))
  else (if x3 < x2 then (ckB x3 4000 <| if (G 192 x3) = 4 then (ex (Sc_find_b40 x3 G))
  else (Sc_find_b42 x1 x2 x3 G))
  else (ex (Sc_find_b40 x3 G))))
  else (Sc_find_b42 x1 x2 x3 G))
noncomputable def Sc_find_l7 (x1 : Int) (x2 : Int) (x3 : Int) (G : St) : Option (Int × St) :=
  wh (fun s => Sc_find_s7 x1 x2 s.1 s.2) (x3, G)
theorem Sc_find_l7_eq (x1 : Int) (x2 : Int) (x3 : Int) (G : St) : Sc_find_l7 x1 x2 x3 G = (Sc_find_s7 x1 x2 x3 G).bind (lk (fun s => Sc_find_l7 x1 x2 s.1 s.2) some) := by
  exact wh_eq _ _
noncomputable def Sc_find (x1 : Int) (x2 : Int) (G : St) : Option (Int × St) :=
  ckI ((G 190 5) - 1) <| Sc_find_l7 x1 x2 ((G 190 5) - 1) G
noncomputable def Ck_endCall (x1 : Int) (G : St) : Option (Int × St) :=
  ckB x1 12000 <| bd (Sc_find (G 112 x1) (G 160 13) G) fun z1 G2 =>
  ckB z1 4000 <| ckB x1 12000 <| ckI ((G2 160 6) - (G2 114 x1)) <| tk (up G2 160 6 ((G2 160 6) - (G2 114 x1))) fun G3 =>
  ckB (G2 195 z1) 4000 <| ckB x1 12000 <| bd (Ck_push (G3 165 (G2 195 z1)) 0 (G3 113 x1) G3) fun _ G5 =>
  ckB x1 12000 <| tk (up G5 112 x1 (G2 195 z1)) fun G6 =>
  some (0, G6)
noncomputable def Ck_index_b82 (x1 : Int) (x2 : Int) (s0 : Int) (s1 : Int) (s2 : Int) (s3 : Int) (G : St) : Option (Int × St) :=
  ckI (s1 * s0) <| ckI (s2 + (s1 * s0)) <| ckB x2 4000 <| ckI ((s2 + (s1 * s0)) + (G 193 x2)) <| ckB s3 12000 <| tk (up G 114 s3 ((s2 + (s1 * s0)) + (G 193 x2))) fun G3 =>
  ckB x2 4000 <| ckB x1 12000 <| tk (up G3 112 x1 (G3 195 x2)) fun G4 =>
  ckI ((G4 160 6) - 1) <| ckB ((G4 160 6) - 1) 12000 <| ckB x1 12000 <| tk (up G4 113 x1 (G4 162 ((G4 160 6) - 1))) fun G5 =>
  some (0, G5)
noncomputable def Ck_index_b60 (x1 : Int) (x2 : Int) (s0 : Int) (s1 : Int) (s2 : Int) (s3 : Int) (G : St) : Option (Int × St) :=
  ckI (s1 * s0) <| ckI (s2 + (s1 * s0)) <| ckI ((G 160 6) - 1) <| ckB ((G 160 6) - 1) 12000 <| Ck_index_b82 x1 x2 (if (G 163 ((G 160 6) - 1)) = 0 then 0 else 1) 2 (s2 + (s1 * s0)) s3 G
noncomputable def Ck_index (x1 : Int) (G : St) : Option (Int × St) :=
  ckB x1 12000 <| bd (Sc_find (G 112 x1) (G 160 13) G) fun z1 G2 =>
  ckB z1 4000 <| ckI (512 * (G2 194 z1)) <| ckB z1 4000 <| Ck_index_b60 x1 z1 (if (G2 192 z1) = 0 then 1 else 0) 4 (512 * (G2 194 z1)) x1 G2
noncomputable def Ck_need (x1 : Int) (x2 : Int) (G : St) : Option (Int × St) :=
  if x1 = 0 then (bd (Ft_set 5 x2 G) fun _ G2 =>
  some (0, G2))
  else (some (0, G))
noncomputable def Ck_visible_b27 (x3 : Int) (G : St) : Option (Int × St) :=
  some (x3, G)
noncomputable def Ck_visible (x1 : Int) (x2 : Int) (G : St) : Option (Int × St) :=
  bd (Sc_find x1 (G 160 13) G) fun z1 G2 =>
  if z1 = (-1) then (bd (Ft_set 4 x2 G2) fun _ G4 =>
  Ck_visible_b27 z1 G4)
  else (Ck_visible_b27 z1 G2)
noncomputable def Ck_read_b100 (x1 : Int) (x2 : Int) (s0 : Int) (s1 : Int) (G : St) : Option (Int × St) :=
  ckB x1 12000 <| bd (Ck_push s1 s0 (G 113 x1) G) fun _ G6 =>
  ckB x2 4000 <| ckB x1 12000 <| tk (up G6 112 x1 (G6 195 x2)) fun G7 =>
  ckB x2 4000 <| ckI (2 * (G7 192 x2)) <| ckB x2 4000 <| ckI ((2 * (G7 192 x2)) + (G7 193 x2)) <| ckB x1 12000 <| tk (up G7 114 x1 ((2 * (G7 192 x2)) + (G7 193 x2))) fun G8 =>
  some (0, G8)
noncomputable def Ck_read_b60 (x1 : Int) (x2 : Int) (s0 : Int) (G : St) : Option (Int × St) :=
  ckB x1 12000 <| bd (Ck_need s0 (G 113 x1) G) fun _ G4 =>
  ckB x2 4000 <| ckB x2 4000 <| Ck_read_b100 x1 x2 (if (G4 192 x2) = 2 then 1 else 0) (G4 193 x2) G4
noncomputable def Ck_read (x1 : Int) (G : St) : Option (Int × St) :=
  ckB x1 12000 <| ckB x1 12000 <| bd (Ck_visible (G 112 x1) (G 113 x1) G) fun z1 G2 =>
  if z1 = (-1) then (some (0, G2))
  else (ckB z1 4000 <| if (G2 192 z1) = 4 then (Ck_read_b60 x1 z1 0 G2)
  else (ckB z1 4000 <| Ck_read_b60 x1 z1 (if (G2 194 z1) = 0 then 1 else 0) G2))
noncomputable def Ck_factor_b112 (x3 : Int) (G : St) : Option (Int × St) :=
  bd (Ck_push 0 1 x3 G) fun _ G2 =>
  some (0, G2)
noncomputable def Ck_factor_b122 (x3 : Int) (G : St) : Option (Int × St) :=
  bd (Ck_push 1 1 x3 G) fun _ G4 =>
  some (0, G4)
noncomputable def Ck_factor_b132 (x1 : Int) (G : St) : Option (Int × St) :=
  bd (Ck_read x1 G) fun _ G6 =>
  some (0, G6)
noncomputable def Ck_factor_b173 (x3 : Int) (s0 : Int) (G : St) : Option (Int × St) :=
  bd (Ck_need s0 x3 G) fun _ G10 =>
  some (0, G10)
noncomputable def Ck_factor_b140 (x2 : Int) (x3 : Int) (G : St) : Option (Int × St) :=
  bd (Ck_visible x2 x3 G) fun z7 G8 =>
  if z7 = (-1) then (some (0, G8))
  else (ckB z7 4000 <| Ck_factor_b173 x3 (if 0 < (G8 194 z7) then 1 else 0) G8)
noncomputable def Ck_factor_b200 (x1 : Int) (x3 : Int) (s0 : Int) (G : St) : Option (Int × St) :=
  ckI ((G 160 6) - 1) <| ckB ((G 160 6) - 1) 12000 <| bd (Ck_need s0 (G 162 ((G 160 6) - 1)) G) fun _ G12 =>
  bd (Ck_index x1 G12) fun _ G14 =>
  ckB x1 12000 <| bd (Ck_become (j_an (G14 114 x1) 1) 0 G14) fun _ G16 =>
  ckI ((G16 160 6) - 1) <| ckB ((G16 160 6) - 1) 12000 <| tk (up G16 162 ((G16 160 6) - 1) x3) fun G17 =>
  some (0, G17)
noncomputable def Ck_factor_b180 (x1 : Int) (x3 : Int) (G : St) : Option (Int × St) :=
  ckI ((G 160 6) - 1) <| ckB ((G 160 6) - 1) 12000 <| Ck_factor_b200 x1 x3 (if (G 161 ((G 160 6) - 1)) = 0 then 1 else 0) G
noncomputable def Ck_factor_b312 (x1 : Int) (x3 : Int) (x5 : Int) (s0 : Int) (G : St) : Option (Int × St) :=
  bd (Ck_need s0 x3 G) fun _ G21 =>
  ckB x5 4000 <| ckB x1 12000 <| tk (up G21 112 x1 (G21 195 x5)) fun G22 =>
  some (0, G22)
noncomputable def Ck_factor_b250 (x1 : Int) (x2 : Int) (x3 : Int) (G : St) : Option (Int × St) :=
  bd (Ck_visible x2 x3 G) fun z18 G19 =>
  if z18 = (-1) then (some (0, G19))
  else (ckB z18 4000 <| if (G19 192 z18) = 4 then (ckB z18 4000 <| ckB (G19 195 z18) 4000 <| ckB x1 12000 <| Ck_factor_b312 x1 x3 z18 (if (G19 167 (G19 195 z18)) = (G19 114 x1) then 1 else 0) G19)
  else (Ck_factor_b312 x1 x3 z18 0 G19))
noncomputable def Ck_factor_b402 (s0 : Int) (G : St) : Option (Int × St) :=
  ckI ((G 160 6) - 1) <| ckB ((G 160 6) - 1) 12000 <| bd (Ck_need s0 (G 162 ((G 160 6) - 1)) G) fun _ G26 =>
  some (0, G26)
noncomputable def Ck_factor_b338 (x1 : Int) (x2 : Int) (G : St) : Option (Int × St) :=
  bd (Sc_find x2 (G 160 13) G) fun z23 G24 =>
  ckB z23 4000 <| ckI ((G24 160 6) - 1) <| ckB ((G24 160 6) - 1) 12000 <| ckB (G24 195 z23) 4000 <| ckB x1 12000 <| ckI ((G24 166 (G24 195 z23)) + (G24 114 x1)) <| ckB ((G24 166 (G24 195 z23)) + (G24 114 x1)) 4000 <| Ck_factor_b402 (if (G24 161 ((G24 160 6) - 1)) = (G24 168 ((G24 166 (G24 195 z23)) + (G24 114 x1))) then 1 else 0) G24
noncomputable def Ck_factor_b419 (x1 : Int) (G : St) : Option (Int × St) :=
  bd (Ck_endCall x1 G) fun _ G28 =>
  some (0, G28)
noncomputable def Ck_factor_b448 (x3 : Int) (s0 : Int) (G : St) : Option (Int × St) :=
  ckI ((G 160 6) - 1) <| ckB ((G 160 6) - 1) 12000 <| bd (Ck_need s0 (G 162 ((G 160 6) - 1)) G) fun _ G30 =>
  ckI ((G30 160 6) - 1) <| ckB ((G30 160 6) - 1) 12000 <| bd (Ck_become 0 (G30 163 ((G30 160 6) - 1)) G30) fun _ G32 =>
  ckI ((G32 160 6) - 1) <| ckB ((G32 160 6) - 1) 12000 <| tk (up G32 162 ((G32 160 6) - 1) x3) fun G33 =>
  some (0, G33)
noncomputable def Ck_factor_b427 (x3 : Int) (G : St) : Option (Int × St) :=
  ckI ((G 160 6) - 1) <| ckB ((G 160 6) - 1) 12000 <| Ck_factor_b448 x3 (if (G 161 ((G 160 6) - 1)) = 1 then 1 else 0) G
noncomputable def Ck_factor_b513 (s0 : Int) (G : St) : Option (Int × St) :=
  ckI ((G 160 6) - 1) <| ckB ((G 160 6) - 1) 12000 <| bd (Ck_need s0 (G 162 ((G 160 6) - 1)) G) fun _ G35 =>
  some (0, G35)
noncomputable def Ck_factor_b493 (G : St) : Option (Int × St) :=
  ckI ((G 160 6) - 1) <| ckB ((G 160 6) - 1) 12000 <| Ck_factor_b513 (if (G 161 ((G 160 6) - 1)) = 0 then 1 else 0) G
noncomputable def Ck_factor_b598 (x1 : Int) (x3 : Int) (G : St) : Option (Int × St) :=
  ckI ((G 160 6) - 1) <| ckB ((G 160 6) - 1) 12000 <| ckB x1 12000 <| tk (up G 114 x1 (G 162 ((G 160 6) - 1))) fun G38 =>
  ckI ((G38 160 6) - 1) <| tk (up G38 160 6 ((G38 160 6) - 1)) fun G39 =>
  ckI ((G39 160 6) - 1) <| ckB ((G39 160 6) - 1) 12000 <| bd (Ck_become 1 (G39 163 ((G39 160 6) - 1)) G39) fun _ G41 =>
  ckI ((G41 160 6) - 1) <| ckB ((G41 160 6) - 1) 12000 <| tk (up G41 162 ((G41 160 6) - 1) x3) fun G42 =>
  some (0, G42)
noncomputable def Ck_factor_b550 (x1 : Int) (x3 : Int) (s0 : Int) (G : St) : Option (Int × St) :=
  ckI ((G 160 6) - 1) <| ckB ((G 160 6) - 1) 12000 <| bd (Ck_need s0 (G 162 ((G 160 6) - 1)) G) fun _ G37 =>
  ckI ((G37 160 6) - 1) <| ckB ((G37 160 6) - 1) 12000 <| if (G37 163 ((G37 160 6) - 1)) = 0 then (ckI ((G37 160 6) - 1) <| ckB ((G37 160 6) - 1) 12000 <| bd (Ft_set 6 (G37 162 ((G37 160 6) - 1)) G37) fun _ G44 =>
  Ck_factor_b598 x1 x3 G44)
  else (Ck_factor_b598 x1 x3 G37)
noncomputable def Ck_factor_b530 (x1 : Int) (x3 : Int) (G : St) : Option (Int × St) :=
  ckI ((G 160 6) - 1) <| ckB ((G 160 6) - 1) 12000 <| Ck_factor_b550 x1 x3 (if (G 161 ((G 160 6) - 1)) = 0 then 1 else 0) G
noncomputable def Ck_factor_b659 (x3 : Int) (G : St) : Option (Int × St) :=
  ckI ((G 160 6) - 1) <| ckB ((G 160 6) - 1) 12000 <| tk (up G 162 ((G 160 6) - 1) x3) fun G45 =>
  some (0, G45)
noncomputable def Ck_factor (x1 : Int) (G : St) : Option (Int × St) :=
  ckB x1 12000 <| ckB x1 12000 <| ckB x1 12000 <| ckB (G 111 x1) 61 <| swt (G 111 x1) 22 [Ck_factor_b112 (G 113 x1) G, Ck_factor_b122 (G 113 x1) G, Ck_factor_b122 (G 113 x1) G, Ck_factor_b132 x1 G, Ck_factor_b140 (G 112 x1) (G 113 x1) G, Ck_factor_b180 x1 (G 113 x1) G, Ck_factor_b250 x1 (G 112 x1) (G 113 x1) G, Ck_factor_b338 x1 (G 112 x1) G, Ck_factor_b419 x1 G, some (0, G), Ck_factor_b427 (G 113 x1) G, some (0, G), Ck_factor_b493 G, Ck_factor_b530 x1 (G 113 x1) G, some (0, G), Ck_factor_b659 (G 113 x1) G] (some (0, G))
noncomputable def Ck_two_b343 (s0 : Int) (s1 : Int) (G : St) : Option (Int × St) :=
  bd (Ck_become s1 s0 G) fun _ G6 =>
  some (0, G6)
noncomputable def Ck_two_b312 (s0 : Int) (G : St) : Option (Int × St) :=
  ckI ((G 160 6) - 1) <| ckB ((G 160 6) - 1) 12000 <| if (G 163 ((G 160 6) - 1)) = 0 then (Ck_two_b343 0 s0 G)
  else (ckB (G 160 6) 12000 <| Ck_two_b343 (if (G 163 (G 160 6)) = 0 then 0 else 1) s0 G)
noncomputable def Ck_two_b298 (x4 : Int) (s0 : Int) (G : St) : Option (Int × St) :=
  Ck_two_b312 (if s0 = 0 then x4 else 1) G
noncomputable def Ck_two_b235 (x2 : Int) (x4 : Int) (x8 : Int) (s0 : Int) (s1 : Int) (G : St) : Option (Int × St) :=
  ckB s1 12000 <| tk (up G 114 s1 s0) fun G3 =>
  ckI ((G3 160 6) - 1) <| tk (up G3 160 6 ((G3 160 6) - 1)) fun G4 =>
  if x8 = 0 then (ckB x2 61 <| ckB 43 61 <| if x2 = 43 then (Ck_two_b298 x4 1 G4)
  else (ckB x2 61 <| ckB 44 61 <| if x2 = 44 then (Ck_two_b298 x4 1 G4)
  else (ckB x2 61 <| ckB 45 61 <| if x2 = 45 then (Ck_two_b298 x4 1 G4)
  else (ckB x2 61 <| ckB 46 61 <| if x2 = 46 then (Ck_two_b298 x4 1 G4)
  else (ckB x2 61 <| ckB 47 61 <| if x2 = 47 then (Ck_two_b298 x4 1 G4)
  else (ckB x2 61 <| ckB 48 61 <| if x2 = 48 then (Ck_two_b298 x4 1 G4)
  else (Ck_two_b298 x4 0 G4)))))))
  else (Ck_two_b298 x4 1 G4)
noncomputable def Ck_two_b206 (x1 : Int) (x2 : Int) (x4 : Int) (x6 : Int) (x8 : Int) (G : St) : Option (Int × St) :=
  if x6 = 0 then (Ck_two_b235 x2 x4 x8 x4 x1 G)
  else (ckI ((G 160 6) - 1) <| ckB ((G 160 6) - 1) 12000 <| Ck_two_b235 x2 x4 x8 (G 162 ((G 160 6) - 1)) x1 G)
noncomputable def Ck_two_b163 (x1 : Int) (x2 : Int) (x3 : Int) (x4 : Int) (x6 : Int) (x8 : Int) (s0 : Int) (G : St) : Option (Int × St) :=
  bd (Ck_need s0 x3 G) fun _ G2 =>
  if x6 = 0 then (Ck_two_b206 x1 x2 x4 x6 x8 G2)
  else (ckI ((G2 160 6) - 1) <| ckB ((G2 160 6) - 1) 12000 <| if (G2 163 ((G2 160 6) - 1)) = 0 then (ckI ((G2 160 6) - 1) <| ckB ((G2 160 6) - 1) 12000 <| bd (Ft_set 6 (G2 162 ((G2 160 6) - 1)) G2) fun _ G8 =>
  Ck_two_b206 x1 x2 x4 x6 x8 G8)
  else (Ck_two_b206 x1 x2 x4 x6 x8 G2))
noncomputable def Ck_two_b155 (x1 : Int) (x2 : Int) (x3 : Int) (x4 : Int) (x6 : Int) (x8 : Int) (s0 : Int) (s1 : Int) (G : St) : Option (Int × St) :=
  Ck_two_b163 x1 x2 x3 x4 x6 x8 (if s1 = s0 then 1 else 0) G
noncomputable def Ck_two_b128 (x1 : Int) (x2 : Int) (x3 : Int) (x4 : Int) (x5 : Int) (x6 : Int) (x7 : Int) (s0 : Int) (G : St) : Option (Int × St) :=
  if x4 = x5 then (if x7 = 0 then (Ck_two_b155 x1 x2 x3 x4 x6 s0 (if s0 = 0 then 0 else 1) x4 G)
  else (Ck_two_b163 x1 x2 x3 x4 x6 s0 1 G))
  else (Ck_two_b163 x1 x2 x3 x4 x6 s0 0 G)
noncomputable def Ck_two_b107 (x1 : Int) (x2 : Int) (x3 : Int) (x4 : Int) (x5 : Int) (x6 : Int) (s0 : Int) (G : St) : Option (Int × St) :=
  ckB x2 61 <| ckB 38 61 <| if x2 = 38 then (Ck_two_b128 x1 x2 x3 x4 x5 x6 s0 1 G)
  else (ckB x2 61 <| ckB 39 61 <| if x2 = 39 then (Ck_two_b128 x1 x2 x3 x4 x5 x6 s0 1 G)
  else (Ck_two_b128 x1 x2 x3 x4 x5 x6 s0 0 G))
noncomputable def Ck_two_b65 (x1 : Int) (x2 : Int) (x3 : Int) (x4 : Int) (x5 : Int) (s0 : Int) (G : St) : Option (Int × St) :=
  ckB x2 61 <| ckB 40 61 <| if x2 = 40 then (Ck_two_b107 x1 x2 x3 x4 x5 s0 1 G)
  else (ckB x2 61 <| ckB 41 61 <| if x2 = 41 then (Ck_two_b107 x1 x2 x3 x4 x5 s0 1 G)
  else (ckB x2 61 <| ckB 42 61 <| if x2 = 42 then (Ck_two_b107 x1 x2 x3 x4 x5 s0 1 G)
  else (ckB x2 61 <| ckB 43 61 <| if x2 = 43 then (Ck_two_b107 x1 x2 x3 x4 x5 s0 1 G)
  else (ckB x2 61 <| ckB 44 61 <| if x2 = 44 then (Ck_two_b107 x1 x2 x3 x4 x5 s0 1 G)
  else (Ck_two_b107 x1 x2 x3 x4 x5 s0 0 G)))))
noncomputable def Ck_two (x1 : Int) (G : St) : Option (Int × St) :=
  ckB x1 12000 <| ckB x1 12000 <| ckI ((G 160 6) - 2) <| ckB ((G 160 6) - 2) 12000 <| ckI ((G 160 6) - 1) <| ckB ((G 160 6) - 1) 12000 <| ckB (G 111 x1) 61 <| ckB 49 61 <| if (G 111 x1) = 49 then (Ck_two_b65 x1 (G 111 x1) (G 113 x1) (G 161 ((G 160 6) - 2)) (G 161 ((G 160 6) - 1)) 1 G)
  else (ckB (G 111 x1) 61 <| ckB 50 61 <| if (G 111 x1) = 50 then (Ck_two_b65 x1 (G 111 x1) (G 113 x1) (G 161 ((G 160 6) - 2)) (G 161 ((G 160 6) - 1)) 1 G)
  else (Ck_two_b65 x1 (G 111 x1) (G 113 x1) (G 161 ((G 160 6) - 2)) (G 161 ((G 160 6) - 1)) 0 G))
noncomputable def Ck_operator_b84 (x2 : Int) (x4 : Int) (s0 : Int) (G : St) : Option (Int × St) :=
  bd (Ck_need s0 x2 G) fun _ G2 =>
  ckB x4 12000 <| tk (up G2 162 x4 x2) fun G3 =>
  some (0, G3)
noncomputable def Ck_operator_b68 (x2 : Int) (x4 : Int) (G : St) : Option (Int × St) :=
  ckB x4 12000 <| Ck_operator_b84 x2 x4 (if (G 161 x4) = 0 then 1 else 0) G
noncomputable def Ck_operator_b116 (x2 : Int) (x4 : Int) (s0 : Int) (G : St) : Option (Int × St) :=
  bd (Ck_need s0 x2 G) fun _ G5 =>
  ckB x4 12000 <| tk (up G5 162 x4 x2) fun G6 =>
  some (0, G6)
noncomputable def Ck_operator_b99 (x2 : Int) (x4 : Int) (G : St) : Option (Int × St) :=
  ckB x4 12000 <| Ck_operator_b116 x2 x4 (if (G 161 x4) = 1 then 1 else 0) G
noncomputable def Ck_operator_b258 (s0 : Int) (s1 : Int) (G : St) : Option (Int × St) :=
  bd (Ck_become s1 s0 G) fun _ G12 =>
  some (0, G12)
noncomputable def Ck_operator_b173 (x1 : Int) (x2 : Int) (x4 : Int) (s0 : Int) (G : St) : Option (Int × St) :=
  bd (Ck_need s0 x2 G) fun _ G8 =>
  ckB x4 12000 <| ckB x1 12000 <| tk (up G8 114 x1 (G8 161 x4)) fun G9 =>
  ckI ((G9 160 6) - 2) <| tk (up G9 160 6 ((G9 160 6) - 2)) fun G10 =>
  ckB (G10 160 6) 12000 <| ckI ((G10 160 6) - 1) <| ckB ((G10 160 6) - 1) 12000 <| if (G10 163 ((G10 160 6) - 1)) = 0 then (Ck_operator_b258 0 (G10 161 (G10 160 6)) G10)
  else (ckB (G10 160 6) 12000 <| if (G10 163 (G10 160 6)) = 0 then (Ck_operator_b258 0 (G10 161 (G10 160 6)) G10)
  else (ckI ((G10 160 6) + 1) <| ckB ((G10 160 6) + 1) 12000 <| Ck_operator_b258 (if (G10 163 ((G10 160 6) + 1)) = 0 then 0 else 1) (G10 161 (G10 160 6)) G10))
noncomputable def Ck_operator_b131 (x1 : Int) (x2 : Int) (x4 : Int) (G : St) : Option (Int × St) :=
  ckI ((G 160 6) - 3) <| ckB ((G 160 6) - 3) 12000 <| if (G 161 ((G 160 6) - 3)) = 1 then (ckI ((G 160 6) - 2) <| ckB ((G 160 6) - 2) 12000 <| ckB x4 12000 <| Ck_operator_b173 x1 x2 x4 (if (G 161 ((G 160 6) - 2)) = (G 161 x4) then 1 else 0) G)
  else (Ck_operator_b173 x1 x2 x4 0 G)
noncomputable def Ck_operator_b267 (x1 : Int) (G : St) : Option (Int × St) :=
  bd (Ck_two x1 G) fun _ G14 =>
  some (0, G14)
noncomputable def Ck_operator (x1 : Int) (G : St) : Option (Int × St) :=
  ckB x1 12000 <| ckB x1 12000 <| ckI ((G 160 6) - 1) <| ckB (G 111 x1) 61 <| swt (G 111 x1) 56 [Ck_operator_b68 (G 113 x1) ((G 160 6) - 1) G, Ck_operator_b68 (G 113 x1) ((G 160 6) - 1) G, Ck_operator_b99 (G 113 x1) ((G 160 6) - 1) G, Ck_operator_b131 x1 (G 113 x1) ((G 160 6) - 1) G, some (0, G)] (Ck_operator_b267 x1 G)
noncomputable def Ck_assign_b170 (x1 : Int) (x2 : Int) (s0 : Int) (s1 : Int) (G : St) : Option (Int × St) :=
  ckB s1 12000 <| tk (up G 114 s1 s0) fun G6 =>
  ckB x2 4000 <| ckB x1 12000 <| tk (up G6 112 x1 (G6 195 x2)) fun G7 =>
  some (0, G7)
noncomputable def Ck_assign_b146 (x1 : Int) (x2 : Int) (s0 : Int) (s1 : Int) (s2 : Int) (s3 : Int) (G : St) : Option (Int × St) :=
  ckI (s1 * s0) <| ckI (s2 + (s1 * s0)) <| ckB x2 4000 <| ckI ((s2 + (s1 * s0)) + (G 193 x2)) <| Ck_assign_b170 x1 x2 ((s2 + (s1 * s0)) + (G 193 x2)) s3 G
noncomputable def Ck_assign_b103 (x1 : Int) (x2 : Int) (x3 : Int) (G : St) : Option (Int × St) :=
  if x3 = 0 then (ckB x2 4000 <| Ck_assign_b170 x1 x2 (G 193 x2) x1 G)
  else (ckB x2 4000 <| ckI (512 * (G 194 x2)) <| ckB (G 160 6) 12000 <| Ck_assign_b146 x1 x2 (if (G 163 (G 160 6)) = 0 then 0 else 1) 2 (512 * (G 194 x2)) x1 G)
noncomputable def Ck_assign_b88 (x1 : Int) (x2 : Int) (s0 : Int) (G : St) : Option (Int × St) :=
  if s0 = 0 then (Ck_assign_b103 x1 x2 s0 G)
  else (ckI ((G 160 6) - 1) <| tk (up G 160 6 ((G 160 6) - 1)) fun G8 =>
  Ck_assign_b103 x1 x2 s0 G8)
noncomputable def Ck_assign_b58 (x1 : Int) (x2 : Int) (s0 : Int) (G : St) : Option (Int × St) :=
  ckB (G 160 6) 12000 <| bd (Ck_need s0 (G 162 (G 160 6)) G) fun _ G5 =>
  ckB x1 12000 <| Ck_assign_b88 x1 x2 (if (G5 114 x1) = 1 then 1 else 0) G5
noncomputable def Ck_assign (x1 : Int) (G : St) : Option (Int × St) :=
  ckB x1 12000 <| bd (Sc_find (G 112 x1) (G 160 13) G) fun z1 G2 =>
  ckI ((G2 160 6) - 1) <| tk (up G2 160 6 ((G2 160 6) - 1)) fun G3 =>
  ckB (G3 160 6) 12000 <| ckB z1 4000 <| Ck_assign_b58 x1 z1 (if (G3 161 (G3 160 6)) = (G3 193 z1) then 1 else 0) G3
noncomputable def Ck_comesIn (x1 : Int) (x2 : Int) (G : St) : Option (Int × St) :=
  bd (Sc_find x1 (G 160 13) G) fun z1 G2 =>
  if z1 = (-1) then (some (0, G2))
  else (bd (Ft_set 4 x2 G2) fun _ G4 =>
  some (0, G4))
noncomputable def Sc_add (x1 : Int) (x2 : Int) (x3 : Int) (x4 : Int) (x5 : Int) (G : St) : Option (Int × St) :=
  ckB (G 190 5) 4000 <| tk (up G 191 (G 190 5) x1) fun G1 =>
  ckB (G1 190 5) 4000 <| tk (up G1 192 (G1 190 5) x2) fun G2 =>
  ckB (G2 190 5) 4000 <| tk (up G2 193 (G2 190 5) x3) fun G3 =>
  ckB (G3 190 5) 4000 <| tk (up G3 194 (G3 190 5) x4) fun G4 =>
  ckB (G4 190 5) 4000 <| tk (up G4 195 (G4 190 5) x5) fun G5 =>
  ckI ((G5 190 5) + 1) <| tk (up G5 190 5 ((G5 190 5) + 1)) fun G6 =>
  some (0, G6)
noncomputable def Ck_endDef_b37 (x1 : Int) (s0 : Int) (G : St) : Option (Int × St) :=
  ckB (G 160 6) 12000 <| bd (Ck_need s0 (G 162 (G 160 6)) G) fun _ G3 =>
  tk (up G3 190 5 (G3 160 13)) fun G4 =>
  tk (up G4 160 13 (-1)) fun G5 =>
  ckB x1 12000 <| ckB (G5 160 18) 4000 <| tk (up G5 165 (G5 160 18) (G5 114 x1)) fun G6 =>
  ckB x1 12000 <| ckB x1 12000 <| bd (Sc_add (G6 112 x1) 4 (G6 114 x1) 0 (G6 160 18) G6) fun _ G8 =>
  ckB x1 12000 <| tk (up G8 112 x1 (G8 160 18)) fun G9 =>
  ckI ((G9 160 18) + 1) <| tk (up G9 160 18 ((G9 160 18) + 1)) fun G10 =>
  some (0, G10)
noncomputable def Ck_endDef (x1 : Int) (G : St) : Option (Int × St) :=
  ckI ((G 160 6) - 1) <| tk (up G 160 6 ((G 160 6) - 1)) fun G1 =>
  ckB (G1 160 6) 12000 <| ckB x1 12000 <| Ck_endDef_b37 x1 (if (G1 161 (G1 160 6)) = (G1 114 x1) then 1 else 0) G1
noncomputable def Ck_endVar_b78 (x1 : Int) (x2 : Int) (x3 : Int) (G : St) : Option (Int × St) :=
  ckB x1 12000 <| bd (Sc_add (G 112 x1) 1 x2 x3 (G 160 9) G) fun _ G2 =>
  ckB x1 12000 <| tk (up G2 112 x1 (G2 160 9)) fun G3 =>
  ckI ((G3 160 9) + (if 1 < x3 then x3 else 1)) <| tk (up G3 160 9 ((G3 160 9) + (if 1 < x3 then x3 else 1))) fun G4 =>
  some (0, G4)
noncomputable def Ck_endVar_b66 (x1 : Int) (x2 : Int) (x3 : Int) (s0 : Int) (G : St) : Option (Int × St) :=
  ckB (G 160 6) 12000 <| bd (Ck_need s0 (G 162 (G 160 6)) G) fun _ G7 =>
  Ck_endVar_b78 x1 x2 x3 G7
noncomputable def Ck_endVar (x1 : Int) (G : St) : Option (Int × St) :=
  ckB x1 12000 <| ckB x1 12000 <| ckD (G 114 x1) 2 <| ckB x1 12000 <| if (G 113 x1) = 1 then (ckI ((G 160 6) - 1) <| tk (up G 160 6 ((G 160 6) - 1)) fun G5 =>
  ckB (G5 160 6) 12000 <| Ck_endVar_b66 x1 (j_an (G 114 x1) 1) ((G 114 x1) / 2) (if (G5 161 (G5 160 6)) = (j_an (G 114 x1) 1) then 1 else 0) G5)
  else (Ck_endVar_b78 x1 (j_an (G 114 x1) 1) ((G 114 x1) / 2) G)
noncomputable def Ck_input_b123 (P W : Int) (s0 : Int) (s1 : Int) (s2 : Int) (G : St) : Option (Int × St) :=
  ckI (s1 * s0) <| ckI (s2 + (s1 * s0)) <| tk (up G 160 11 (s2 + (s1 * s0))) fun G7 =>
  some (0, G7)
noncomputable def Ck_input (P W : Int) (x1 : Int) (G : St) : Option (Int × St) :=
  ckB x1 12000 <| ckB x1 12000 <| ckD (G 114 x1) 256 <| ckD ((G 114 x1) % 256) 2 <| ckB x1 12000 <| ckB x1 12000 <| bd (Ck_comesIn (G 112 x1) (G 113 x1) G) fun _ G2 =>
  ckB x1 12000 <| bd (Sc_add (G2 112 x1) 0 (j_an (G 114 x1) 1) (((G 114 x1) % 256) / 2) (G2 160 10) G2) fun _ G4 =>
  ckB x1 12000 <| tk (up G4 112 x1 (G4 160 10)) fun G5 =>
  ckI ((G5 160 10) + (if 1 < (((G 114 x1) % 256) / 2) then (((G 114 x1) % 256) / 2) else 1)) <| tk (up G5 160 10 ((G5 160 10) + (if 1 < (((G 114 x1) % 256) / 2) then (((G 114 x1) % 256) / 2) else 1))) fun G6 =>
  Ck_input_b123 P W (if (j_an (G 114 x1) 1) = 1 then 1 else W) (if 1 < (((G 114 x1) % 256) / 2) then (((G 114 x1) % 256) / 2) else 1) (G6 160 11) G6
noncomputable def Ck_mark (G : St) : Option (Int × St) :=
  ckI (2 * (G 160 8)) <| ckB (2 * (G 160 8)) 128 <| tk (up G 164 (2 * (G 160 8)) (G 190 5)) fun G1 =>
  ckI (2 * (G1 160 8)) <| ckI ((2 * (G1 160 8)) + 1) <| ckB ((2 * (G1 160 8)) + 1) 128 <| tk (up G1 164 ((2 * (G1 160 8)) + 1) (G1 160 9)) fun G2 =>
  ckI ((G2 160 8) + 1) <| tk (up G2 160 8 ((G2 160 8) + 1)) fun G3 =>
  some (0, G3)
noncomputable def Ck_release (G : St) : Option (Int × St) :=
  ckI ((G 160 8) - 1) <| tk (up G 160 8 ((G 160 8) - 1)) fun G1 =>
  ckI (2 * (G1 160 8)) <| ckB (2 * (G1 160 8)) 128 <| tk (up G1 190 5 (G1 164 (2 * (G1 160 8)))) fun G2 =>
  ckI (2 * (G2 160 8)) <| ckI ((2 * (G2 160 8)) + 1) <| ckB ((2 * (G2 160 8)) + 1) 128 <| tk (up G2 160 9 (G2 164 ((2 * (G2 160 8)) + 1))) fun G3 =>
  some (0, G3)
noncomputable def Ck_target_b90 (x1 : Int) (s0 : Int) (G : St) : Option (Int × St) :=
  ckB x1 12000 <| bd (Ck_need s0 (G 113 x1) G) fun _ G4 =>
  some (0, G4)
noncomputable def Ck_target_b81 (x1 : Int) (x3 : Int) (s0 : Int) (G : St) : Option (Int × St) :=
  Ck_target_b90 x1 (if s0 = x3 then 1 else 0) G
noncomputable def Ck_target_b49 (x1 : Int) (x2 : Int) (s0 : Int) (G : St) : Option (Int × St) :=
  ckB x2 4000 <| if (G 192 x2) = 1 then (ckB x2 4000 <| Ck_target_b81 x1 s0 (if 0 < (G 194 x2) then 1 else 0) G)
  else (Ck_target_b90 x1 0 G)
noncomputable def Ck_target (x1 : Int) (G : St) : Option (Int × St) :=
  ckB x1 12000 <| ckB x1 12000 <| bd (Ck_visible (G 112 x1) (G 113 x1) G) fun z1 G2 =>
  if z1 = (-1) then (some (0, G2))
  else (ckB x1 12000 <| ckB (G2 111 x1) 61 <| ckB 10 61 <| if (G2 111 x1) = 10 then (Ck_target_b49 x1 z1 1 G2)
  else (Ck_target_b49 x1 z1 0 G2))
noncomputable def Ck_statement_b136 (P W : Int) (x1 : Int) (G : St) : Option (Int × St) :=
  bd (Ck_input P W x1 G) fun _ G2 =>
  some (0, G2)
noncomputable def Ck_statement_b144 (P W : Int) (x2 : Int) (x3 : Int) (G : St) : Option (Int × St) :=
  bd (Ck_comesIn x2 x3 G) fun _ G4 =>
  tk (up G4 160 13 (G4 190 5)) fun G5 =>
  ckB (G5 160 18) 4000 <| tk (up G5 166 (G5 160 18) (G5 160 19)) fun G6 =>
  ckB (G6 160 18) 4000 <| tk (up G6 167 (G6 160 18) 0) fun G7 =>
  some (0, G7)
noncomputable def Ck_statement_b187 (P W : Int) (x1 : Int) (x2 : Int) (x3 : Int) (G : St) : Option (Int × St) :=
  bd (Ck_comesIn x2 x3 G) fun _ G9 =>
  ckB x1 12000 <| ckB (G9 160 18) 4000 <| bd (Sc_add x2 3 (G9 114 x1) 0 (G9 167 (G9 160 18)) G9) fun _ G11 =>
  ckB x1 12000 <| ckB (G11 160 19) 4000 <| tk (up G11 168 (G11 160 19) (G11 114 x1)) fun G12 =>
  ckI ((G12 160 19) + 1) <| tk (up G12 160 19 ((G12 160 19) + 1)) fun G13 =>
  ckB (G13 160 18) 4000 <| ckI ((G13 167 (G13 160 18)) + 1) <| ckB (G13 160 18) 4000 <| tk (up G13 167 (G13 160 18) ((G13 167 (G13 160 18)) + 1)) fun G14 =>
  some (0, G14)
noncomputable def Ck_statement_b265 (P W : Int) (x1 : Int) (G : St) : Option (Int × St) :=
  bd (Ck_endDef x1 G) fun _ G16 =>
  some (0, G16)
noncomputable def Ck_statement_b273 (P W : Int) (x1 : Int) (G : St) : Option (Int × St) :=
  ckI ((G 160 6) - 1) <| tk (up G 160 6 ((G 160 6) - 1)) fun G17 =>
  ckB (G17 160 6) 12000 <| ckB x1 12000 <| tk (up G17 114 x1 (G17 161 (G17 160 6))) fun G18 =>
  some (0, G18)
noncomputable def Ck_statement_b304 (P W : Int) (x2 : Int) (x3 : Int) (G : St) : Option (Int × St) :=
  bd (Ck_comesIn x2 x3 G) fun _ G20 =>
  some (0, G20)
noncomputable def Ck_statement_b313 (P W : Int) (x1 : Int) (G : St) : Option (Int × St) :=
  bd (Ck_endVar x1 G) fun _ G22 =>
  some (0, G22)
noncomputable def Ck_statement_b321 (P W : Int) (x1 : Int) (G : St) : Option (Int × St) :=
  bd (Ck_target x1 G) fun _ G24 =>
  some (0, G24)
noncomputable def Ck_statement_b349 (P W : Int) (x1 : Int) (s0 : Int) (G : St) : Option (Int × St) :=
  ckI ((G 160 6) - 1) <| ckB ((G 160 6) - 1) 12000 <| bd (Ck_need s0 (G 162 ((G 160 6) - 1)) G) fun _ G26 =>
  bd (Ck_index x1 G26) fun _ G28 =>
  some (0, G28)
noncomputable def Ck_statement_b329 (P W : Int) (x1 : Int) (G : St) : Option (Int × St) :=
  ckI ((G 160 6) - 1) <| ckB ((G 160 6) - 1) 12000 <| Ck_statement_b349 P W x1 (if (G 161 ((G 160 6) - 1)) = 0 then 1 else 0) G
noncomputable def Ck_statement_b371 (P W : Int) (x1 : Int) (G : St) : Option (Int × St) :=
  bd (Ck_assign x1 G) fun _ G30 =>
  some (0, G30)
noncomputable def Ck_statement_b408 (P W : Int) (x1 : Int) (s0 : Int) (G : St) : Option (Int × St) :=
  ckB (G 160 6) 12000 <| bd (Ck_need s0 (G 162 (G 160 6)) G) fun _ G33 =>
  ckB x1 12000 <| tk (up G33 112 x1 (G33 160 9)) fun G34 =>
  some (0, G34)
noncomputable def Ck_statement_b379 (P W : Int) (x1 : Int) (G : St) : Option (Int × St) :=
  ckI ((G 160 6) - 1) <| tk (up G 160 6 ((G 160 6) - 1)) fun G31 =>
  ckB (G31 160 6) 12000 <| Ck_statement_b408 P W x1 (if (G31 161 (G31 160 6)) = 1 then 1 else 0) G31
noncomputable def Ck_statement_b436 (P W : Int) (x2 : Int) (x3 : Int) (G : St) : Option (Int × St) :=
  bd (Ck_comesIn x2 x3 G) fun _ G36 =>
  some (0, G36)
noncomputable def Ck_statement_b465 (P W : Int) (s0 : Int) (G : St) : Option (Int × St) :=
  ckI ((G 160 6) - 1) <| ckB ((G 160 6) - 1) 12000 <| bd (Ck_need s0 (G 162 ((G 160 6) - 1)) G) fun _ G38 =>
  ckI ((G38 160 6) - 1) <| ckB ((G38 160 6) - 1) 12000 <| if (G38 163 ((G38 160 6) - 1)) = 0 then (ckI ((G38 160 6) - 1) <| ckB ((G38 160 6) - 1) 12000 <| bd (Ft_set 6 (G38 162 ((G38 160 6) - 1)) G38) fun _ G40 =>
  some (0, G40))
  else (some (0, G38))
noncomputable def Ck_statement_b445 (P W : Int) (G : St) : Option (Int × St) :=
  ckI ((G 160 6) - 1) <| ckB ((G 160 6) - 1) 12000 <| Ck_statement_b465 P W (if (G 161 ((G 160 6) - 1)) = 0 then 1 else 0) G
noncomputable def Ck_statement_b516 (P W : Int) (x1 : Int) (x2 : Int) (G : St) : Option (Int × St) :=
  ckI ((G 160 6) - 2) <| tk (up G 160 6 ((G 160 6) - 2)) fun G41 =>
  bd (Ck_mark G41) fun _ G43 =>
  bd (Sc_add x2 2 0 0 (G43 160 12) G43) fun _ G45 =>
  ckB x1 12000 <| tk (up G45 112 x1 (G45 160 12)) fun G46 =>
  ckI ((G46 160 12) + 1) <| tk (up G46 160 12 ((G46 160 12) + 1)) fun G47 =>
  some (0, G47)
noncomputable def Ck_statement_b571 (P W : Int) (x1 : Int) (G : St) : Option (Int × St) :=
  bd (Ck_release G) fun _ G49 =>
  ckI ((G49 160 12) - 1) <| tk (up G49 160 12 ((G49 160 12) - 1)) fun G50 =>
  ckB x1 12000 <| tk (up G50 112 x1 (G50 160 12)) fun G51 =>
  some (0, G51)
noncomputable def Ck_statement_b601 (P W : Int) (G : St) : Option (Int × St) :=
  bd (Ck_mark G) fun _ G53 =>
  some (0, G53)
noncomputable def Ck_statement_b608 (P W : Int) (G : St) : Option (Int × St) :=
  bd (Ck_release G) fun _ G55 =>
  some (0, G55)
noncomputable def Ck_statement (P W : Int) (x1 : Int) (G : St) : Option (Int × St) :=
  ckB x1 12000 <| ckB x1 12000 <| ckB x1 12000 <| ckB (G 111 x1) 61 <| swt (G 111 x1) 0 [Ck_statement_b136 P W x1 G, Ck_statement_b144 P W (G 112 x1) (G 113 x1) G, Ck_statement_b187 P W x1 (G 112 x1) (G 113 x1) G, Ck_statement_b265 P W x1 G, some (0, G), Ck_statement_b273 P W x1 G, some (0, G), Ck_statement_b304 P W (G 112 x1) (G 113 x1) G, Ck_statement_b313 P W x1 G, Ck_statement_b321 P W x1 G, Ck_statement_b321 P W x1 G, Ck_statement_b329 P W x1 G, Ck_statement_b371 P W x1 G, Ck_statement_b379 P W x1 G, some (0, G), some (0, G), Ck_statement_b436 P W (G 112 x1) (G 113 x1) G, Ck_statement_b445 P W G, Ck_statement_b516 P W x1 (G 112 x1) G, Ck_statement_b571 P W x1 G, Ck_statement_b601 P W G, Ck_statement_b608 P W G] (some (0, G))
noncomputable def Ck_step (P W : Int) (x1 : Int) (G : St) : Option (Int × St) :=
  ckB x1 12000 <| ckB (G 111 x1) 61 <| ckB 38 61 <| if (G 111 x1) < 38 then (ckB (G 111 x1) 61 <| ckB 22 61 <| if (G 111 x1) < 22 then (bd (Ck_statement P W x1 G) fun _ G2 =>
  some (0, G2))
  else (bd (Ck_factor x1 G) fun _ G4 =>
  some (0, G4)))
  else (bd (Ck_operator x1 G) fun _ G6 =>
  some (0, G6))
noncomputable def Ck_check_s55 (P W : Int) (x1 : Int) (G : St) : Option ((Int × St) ⊕ (Int × St)) :=
  if x1 < (G 110 4) then (bd (Ft_is G) fun z11 G12 =>
  if z11 = 0 then (bd (Ck_step P W x1 G12) fun _ G14 =>
  ckI (x1 + 1) <| some (Sum.inl (x1 + 1, G14)))
  else (ex (some (0, G12))))
  else (ex (some (0, G)))
noncomputable def Ck_check_l55 (P W : Int) (x1 : Int) (G : St) : Option (Int × St) :=
  wh (fun s => Ck_check_s55 P W s.1 s.2) (x1, G)
theorem Ck_check_l55_eq (P W : Int) (x1 : Int) (G : St) : Ck_check_l55 P W x1 G = (Ck_check_s55 P W x1 G).bind (lk (fun s => Ck_check_l55 P W s.1 s.2) some) := by
  exact wh_eq _ _
noncomputable def Ck_check (P W : Int) (G : St) : Option (Int × St) :=
  tk (up G 190 5 0) fun G1 =>
  tk (up G1 160 6 0) fun G2 =>
  tk (up G2 160 8 0) fun G3 =>
  tk (up G3 160 9 0) fun G4 =>
  tk (up G4 160 10 0) fun G5 =>
  tk (up G5 160 11 0) fun G6 =>
  tk (up G6 160 12 0) fun G7 =>
  tk (up G7 160 13 (-1)) fun G8 =>
  tk (up G8 160 18 0) fun G9 =>
  tk (up G9 160 19 0) fun G10 =>
  Ck_check_l55 P W 0 G10
noncomputable def Cd_clear (G : St) : Option (Int × St) :=
  tk (up G 110 4 0) fun G1 =>
  some (0, G1)
noncomputable def Ft_clear (G : St) : Option (Int × St) :=
  tk (up G 130 0 0) fun G1 =>
  tk (up G1 130 1 (-1)) fun G2 =>
  some (0, G2)
noncomputable def Nm_clear (G : St) : Option (Int × St) :=
  tk (up G 120 3 0) fun G1 =>
  tk (up G1 120 4 0) fun G2 =>
  some (0, G2)
noncomputable def Pl_sort_b290 (x1 : Int) (G : St) : Option ((Int × St) ⊕ (Int × St)) :=
  ckI (x1 + 1) <| some (Sum.inl (x1 + 1, G))
noncomputable def Pl_sort_s210 (x1 : Int) (G : St) : Option ((Int × St) ⊕ (Int × St)) :=
  if x1 < (G 140 4) then (ckB x1 40000 <| ckB (G 143 x1) 2001 <| ckB (G 225 (G 143 x1)) 40000 <| tk (up G 221 (G 225 (G 143 x1)) x1) fun G1 =>
  ckB (G 143 x1) 2001 <| ckI ((G1 225 (G 143 x1)) + 1) <| ckB (G 143 x1) 2001 <| tk (up G1 225 (G 143 x1) ((G1 225 (G 143 x1)) + 1)) fun G2 =>
  ckB x1 40000 <| if (G2 144 x1) = 0 then (Pl_sort_b290 x1 G2)
  else (ckB (G 143 x1) 2001 <| ckB (G2 226 (G 143 x1)) 40000 <| tk (up G2 222 (G2 226 (G 143 x1)) x1) fun G3 =>
  ckB (G 143 x1) 2001 <| ckI ((G3 226 (G 143 x1)) + 1) <| ckB (G 143 x1) 2001 <| tk (up G3 226 (G 143 x1) ((G3 226 (G 143 x1)) + 1)) fun G4 =>
  Pl_sort_b290 x1 G4))
  else (ex (some (0, G)))
noncomputable def Pl_sort_l210 (x1 : Int) (G : St) : Option (Int × St) :=
  wh (fun s => Pl_sort_s210 s.1 s.2) (x1, G)
theorem Pl_sort_l210_eq (x1 : Int) (G : St) : Pl_sort_l210 x1 G = (Pl_sort_s210 x1 G).bind (lk (fun s => Pl_sort_l210 s.1 s.2) some) := by
  exact wh_eq _ _
noncomputable def Pl_sort_s167 (x1 : Int) (G : St) : Option ((Int × St) ⊕ (Int × St)) :=
  if (G 140 7) < x1 then (ex (Pl_sort_l210 0 G))
  else (ckB x1 2002 <| ckB x1 2001 <| tk (up G 225 x1 (G 223 x1)) fun G5 =>
  ckB x1 2002 <| ckB x1 2001 <| tk (up G5 226 x1 (G5 224 x1)) fun G6 =>
  ckI (x1 + 1) <| some (Sum.inl (x1 + 1, G6)))
noncomputable def Pl_sort_l167 (x1 : Int) (G : St) : Option (Int × St) :=
  wh (fun s => Pl_sort_s167 s.1 s.2) (x1, G)
theorem Pl_sort_l167_eq (x1 : Int) (G : St) : Pl_sort_l167 x1 G = (Pl_sort_s167 x1 G).bind (lk (fun s => Pl_sort_l167 s.1 s.2) some) := by
  exact wh_eq _ _
noncomputable def Pl_sort_s112 (x1 : Int) (G : St) : Option ((Int × St) ⊕ (Int × St)) :=
  ckI ((G 140 7) + 1) <| if ((G 140 7) + 1) < x1 then (ex (Pl_sort_l167 0 G))
  else (ckB x1 2002 <| ckI (x1 - 1) <| ckB (x1 - 1) 2002 <| ckI ((G 223 x1) + (G 223 (x1 - 1))) <| ckB x1 2002 <| tk (up G 223 x1 ((G 223 x1) + (G 223 (x1 - 1)))) fun G7 =>
  ckB x1 2002 <| ckI (x1 - 1) <| ckB (x1 - 1) 2002 <| ckI ((G7 224 x1) + (G7 224 (x1 - 1))) <| ckB x1 2002 <| tk (up G7 224 x1 ((G7 224 x1) + (G7 224 (x1 - 1)))) fun G8 =>
  ckI (x1 + 1) <| some (Sum.inl (x1 + 1, G8)))
noncomputable def Pl_sort_l112 (x1 : Int) (G : St) : Option (Int × St) :=
  wh (fun s => Pl_sort_s112 s.1 s.2) (x1, G)
theorem Pl_sort_l112_eq (x1 : Int) (G : St) : Pl_sort_l112 x1 G = (Pl_sort_s112 x1 G).bind (lk (fun s => Pl_sort_l112 s.1 s.2) some) := by
  exact wh_eq _ _
noncomputable def Pl_sort_b102 (x1 : Int) (s0 : Int) (s1 : Int) (s2 : Int) (G : St) : Option ((Int × St) ⊕ (Int × St)) :=
  ckI (s1 + s0) <| ckB s2 2002 <| tk (up G 224 s2 (s1 + s0)) fun G10 =>
  ckI (x1 + 1) <| some (Sum.inl (x1 + 1, G10))
noncomputable def Pl_sort_s37 (x1 : Int) (G : St) : Option ((Int × St) ⊕ (Int × St)) :=
  if x1 < (G 140 4) then (ckB x1 40000 <| ckI ((G 143 x1) + 1) <| ckB ((G 143 x1) + 1) 2002 <| ckI ((G 223 ((G 143 x1) + 1)) + 1) <| ckB ((G 143 x1) + 1) 2002 <| tk (up G 223 ((G 143 x1) + 1) ((G 223 ((G 143 x1) + 1)) + 1)) fun G9 =>
  ckB x1 40000 <| ckI ((G9 143 x1) + 1) <| ckB ((G9 143 x1) + 1) 2002 <| ckB x1 40000 <| Pl_sort_b102 x1 (if (G9 144 x1) = 0 then 0 else 1) (G9 224 ((G9 143 x1) + 1)) ((G9 143 x1) + 1) G9)
  else (ex (Pl_sort_l112 1 G))
noncomputable def Pl_sort_l37 (x1 : Int) (G : St) : Option (Int × St) :=
  wh (fun s => Pl_sort_s37 s.1 s.2) (x1, G)
theorem Pl_sort_l37_eq (x1 : Int) (G : St) : Pl_sort_l37 x1 G = (Pl_sort_s37 x1 G).bind (lk (fun s => Pl_sort_l37 s.1 s.2) some) := by
  exact wh_eq _ _
noncomputable def Pl_sort_s2 (x1 : Int) (G : St) : Option ((Int × St) ⊕ (Int × St)) :=
  ckI ((G 140 7) + 1) <| if ((G 140 7) + 1) < x1 then (ex (Pl_sort_l37 0 G))
  else (ckB x1 2002 <| tk (up G 223 x1 0) fun G11 =>
  ckB x1 2002 <| tk (up G11 224 x1 0) fun G12 =>
  ckI (x1 + 1) <| some (Sum.inl (x1 + 1, G12)))
noncomputable def Pl_sort_l2 (x1 : Int) (G : St) : Option (Int × St) :=
  wh (fun s => Pl_sort_s2 s.1 s.2) (x1, G)
theorem Pl_sort_l2_eq (x1 : Int) (G : St) : Pl_sort_l2 x1 G = (Pl_sort_s2 x1 G).bind (lk (fun s => Pl_sort_l2 s.1 s.2) some) := by
  exact wh_eq _ _
noncomputable def Pl_sort (G : St) : Option (Int × St) :=
  Pl_sort_l2 0 G
noncomputable def Pl_make_s135 (P W : Int) (x2 : Int) (x3 : Int) (G : St) : Option ((Int × St) ⊕ ((Int × St) ⊕ (Int × St))) :=
  ckB x2 4000 <| if x3 < (G 204 x2) then (ckI (W * x2) <| ckI ((W * x2) + x3) <| ckB ((W * x2) + x3) (W * 500) <| ckB (G 220 12) (W * 500) <| tk (up G 229 (G 220 12) (G 203 ((W * x2) + x3))) fun G5 =>
  ckI ((G5 220 12) + 1) <| tk (up G5 220 12 ((G5 220 12) + 1)) fun G6 =>
  ckI (x3 + 1) <| some (Sum.inl (x3 + 1, G6)))
  else (ex (ckI (x2 + 1) <| some (Sum.inl (x2 + 1, G))))
noncomputable def Pl_make_l135 (P W : Int) (x2 : Int) (x3 : Int) (G : St) : Option ((Int × St) ⊕ (Int × St)) :=
  wh (fun s => Pl_make_s135 P W x2 s.1 s.2) (x3, G)
theorem Pl_make_l135_eq (P W : Int) (x2 : Int) (x3 : Int) (G : St) : Pl_make_l135 P W x2 x3 G = (Pl_make_s135 P W x2 x3 G).bind (lk (fun s => Pl_make_l135 P W x2 s.1 s.2) some) := by
  exact wh_eq _ _
noncomputable def Pl_make_s122 (P W : Int) (x2 : Int) (G : St) : Option ((Int × St) ⊕ (Int × St)) :=
  if x2 < (G 180 32) then (Pl_make_l135 P W x2 0 G)
  else (ex (some (0, G)))
noncomputable def Pl_make_l122 (P W : Int) (x2 : Int) (G : St) : Option (Int × St) :=
  wh (fun s => Pl_make_s122 P W s.1 s.2) (x2, G)
theorem Pl_make_l122_eq (P W : Int) (x2 : Int) (G : St) : Pl_make_l122 P W x2 G = (Pl_make_s122 P W x2 G).bind (lk (fun s => Pl_make_l122 P W s.1 s.2) some) := by
  exact wh_eq _ _
noncomputable def Pl_make_b93 (P W : Int) (x1 : Int) (x2 : Int) (x3 : Int) (G : St) : Option ((Int × Int × St) ⊕ ((Int × Int × St) ⊕ (Int × St))) :=
  ckI (x3 + 1) <| some (Sum.inl (x1, x3 + 1, G))
noncomputable def Pl_make_s39 (P W : Int) (x2 : Int) (x3 : Int) (x1 : Int) (x4 : Int) (G : St) : Option ((Int × Int × St) ⊕ ((Int × Int × St) ⊕ ((Int × Int × St) ⊕ (Int × St)))) :=
  ckB x3 256 <| if x4 < (G 183 x3) then (ckB x3 256 <| if (G 184 x3) = x2 then (ckB x3 256 <| ckI ((G 182 x3) + x4) <| ckB x1 (W * 256) <| tk (up G 227 x1 ((G 182 x3) + x4)) fun G8 =>
  ckI (x1 + 1) <| ckI (x4 + 1) <| some (Sum.inl (x1 + 1, x4 + 1, G8)))
  else (ex (Pl_make_b93 P W x1 x2 x3 G)))
  else (ex (Pl_make_b93 P W x1 x2 x3 G))
noncomputable def Pl_make_l39 (P W : Int) (x2 : Int) (x3 : Int) (x1 : Int) (x4 : Int) (G : St) : Option ((Int × Int × St) ⊕ ((Int × Int × St) ⊕ (Int × St))) :=
  wh (fun s => Pl_make_s39 P W x2 x3 s.1 s.2.1 s.2.2) (x1, x4, G)
theorem Pl_make_l39_eq (P W : Int) (x2 : Int) (x3 : Int) (x1 : Int) (x4 : Int) (G : St) : Pl_make_l39 P W x2 x3 x1 x4 G = (Pl_make_s39 P W x2 x3 x1 x4 G).bind (lk (fun s => Pl_make_l39 P W x2 x3 s.1 s.2.1 s.2.2) some) := by
  exact wh_eq _ _
noncomputable def Pl_make_s25 (P W : Int) (x2 : Int) (x1 : Int) (x3 : Int) (G : St) : Option ((Int × Int × St) ⊕ ((Int × Int × St) ⊕ (Int × St))) :=
  if x3 < (G 180 13) then (Pl_make_l39 P W x2 x3 x1 0 G)
  else (ex (ckI (x2 + 1) <| some (Sum.inl (x1, x2 + 1, G))))
noncomputable def Pl_make_l25 (P W : Int) (x2 : Int) (x1 : Int) (x3 : Int) (G : St) : Option ((Int × Int × St) ⊕ (Int × St)) :=
  wh (fun s => Pl_make_s25 P W x2 s.1 s.2.1 s.2.2) (x1, x3, G)
theorem Pl_make_l25_eq (P W : Int) (x2 : Int) (x1 : Int) (x3 : Int) (G : St) : Pl_make_l25 P W x2 x1 x3 G = (Pl_make_s25 P W x2 x1 x3 G).bind (lk (fun s => Pl_make_l25 P W x2 s.1 s.2.1 s.2.2) some) := by
  exact wh_eq _ _
noncomputable def Pl_make_s8 (P W : Int) (x1 : Int) (x2 : Int) (G : St) : Option ((Int × Int × St) ⊕ (Int × St)) :=
  if x2 < P then (ckB x2 (P + 1) <| tk (up G 228 x2 x1) fun G7 =>
  Pl_make_l25 P W x2 x1 0 G7)
  else (ex (ckB P (P + 1) <| tk (up G 228 P x1) fun G3 =>
  tk (up G3 220 12 0) fun G4 =>
  Pl_make_l122 P W 0 G4))
noncomputable def Pl_make_l8 (P W : Int) (x1 : Int) (x2 : Int) (G : St) : Option (Int × St) :=
  wh (fun s => Pl_make_s8 P W s.1 s.2.1 s.2.2) (x1, x2, G)
theorem Pl_make_l8_eq (P W : Int) (x1 : Int) (x2 : Int) (G : St) : Pl_make_l8 P W x1 x2 G = (Pl_make_s8 P W x1 x2 G).bind (lk (fun s => Pl_make_l8 P W s.1 s.2.1 s.2.2) some) := by
  exact wh_eq _ _
noncomputable def Pl_make (P W : Int) (G : St) : Option (Int × St) :=
  bd (Pl_sort G) fun _ G2 =>
  Pl_make_l8 P W 0 0 G2
noncomputable def Cd_add (x1 : Int) (x2 : Int) (x3 : Int) (x4 : Int) (G : St) : Option (Int × St) :=
  ckB (G 110 4) 12000 <| ckB x1 61 <| tk (up G 111 (G 110 4) x1) fun G1 =>
  ckB (G1 110 4) 12000 <| tk (up G1 112 (G1 110 4) x2) fun G2 =>
  ckB (G2 110 4) 12000 <| tk (up G2 113 (G2 110 4) x3) fun G3 =>
  ckB (G3 110 4) 12000 <| tk (up G3 114 (G3 110 4) x4) fun G4 =>
  ckI ((G4 110 4) + 1) <| tk (up G4 110 4 ((G4 110 4) + 1)) fun G5 =>
  ckI ((G5 110 4) - 1) <| some ((G5 110 4) - 1, G5)
noncomputable def Rd_enter_b18 (G : St) : Option (Int × St) :=
  ckI ((G 150 3) + 1) <| tk (up G 150 3 ((G 150 3) + 1)) fun G1 =>
  some (0, G1)
noncomputable def Rd_enter (x1 : Int) (G : St) : Option (Int × St) :=
  if (G 150 3) = 30 then (bd (Ft_set 3 x1 G) fun _ G3 =>
  Rd_enter_b18 G3)
  else (Rd_enter_b18 G)
noncomputable def Rd_look (x1 : Int) (G : St) : Option (Int × St) :=
  ckI ((G 150 2) + x1) <| if ((G 150 2) + x1) < (G 150 1) then (ckI ((G 150 2) + x1) <| ckB ((G 150 2) + x1) 4000 <| some (G 151 ((G 150 2) + x1), G))
  else (some ((-1), G))
noncomputable def Rd_skip_b110 (s0 : Int) (G : St) : Option ((Int × St) ⊕ (Int × St)) :=
  ckI ((G 150 2) + 1) <| tk (up G 150 2 ((G 150 2) + 1)) fun G1 =>
  some (Sum.inl (s0, G1))
noncomputable def Rd_skip_b73 (x1 : Int) (G : St) : Option ((Int × St) ⊕ (Int × St)) :=
  ckB (G 150 2) 4000 <| if (G 151 (G 150 2)) = 35 then (Rd_skip_b110 1 G)
  else (if x1 = 0 then (Rd_skip_b110 0 G)
  else (ckB (G 150 2) 4000 <| Rd_skip_b110 (if (G 151 (G 150 2)) = 10 then 0 else 1) G))
noncomputable def Rd_skip_s2 (x1 : Int) (G : St) : Option ((Int × St) ⊕ (Int × St)) :=
  if (G 150 2) < (G 150 1) then (if x1 = 0 then (ckB (G 150 2) 4000 <| if (G 151 (G 150 2)) = 32 then (Rd_skip_b73 x1 G)
  else (ckB (G 150 2) 4000 <| if (G 151 (G 150 2)) = 9 then (Rd_skip_b73 x1 G)
  else (ckB (G 150 2) 4000 <| if (G 151 (G 150 2)) = 10 then (Rd_skip_b73 x1 G)
  else (ckB (G 150 2) 4000 <| if (G 151 (G 150 2)) = 35 then (Rd_skip_b73 x1 G)
  else (ex (some (0, G)))))))
  else (Rd_skip_b73 x1 G))
  else (ex (some (0, G)))
noncomputable def Rd_skip_l2 (x1 : Int) (G : St) : Option (Int × St) :=
  wh (fun s => Rd_skip_s2 s.1 s.2) (x1, G)
theorem Rd_skip_l2_eq (x1 : Int) (G : St) : Rd_skip_l2 x1 G = (Rd_skip_s2 x1 G).bind (lk (fun s => Rd_skip_l2 s.1 s.2) some) := by
  exact wh_eq _ _
noncomputable def Rd_skip (G : St) : Option (Int × St) :=
  Rd_skip_l2 0 G
noncomputable def Rd_isSign (x1 : Int) (G : St) : Option (Int × St) :=
  bd (Rd_skip G) fun _ G2 =>
  bd (Rd_look 0 G2) fun z3 G4 =>
  ckB (if z3 = x1 then 1 else 0) 2 (some ((if z3 = x1 then 1 else 0), G4))
noncomputable def Rd_bad (G : St) : Option (Int × St) :=
  bd (Ft_set 1 (G 150 2) G) fun _ G2 =>
  some (0, G2)
noncomputable def Rd_isAlone (x1 : Int) (x2 : Int) (G : St) : Option (Int × St) :=
  bd (Rd_isSign x1 G) fun z1 G2 =>
  if z1 = 0 then (ckB 0 2 (some (0, G2)))
  else (bd (Rd_look 1 G2) fun z3 G4 =>
  ckB (if z3 = x2 then 0 else 1) 2 (some ((if z3 = x2 then 0 else 1), G4)))
noncomputable def Rd_sign_b36 (s0 : Int) (G : St) : Option (Int × St) :=
  if s0 = 0 then (bd (Rd_bad G) fun _ G8 =>
  some (0, G8))
  else (ckI ((G 150 2) + 1) <| tk (up G 150 2 ((G 150 2) + 1)) fun G9 =>
  some (0, G9))
noncomputable def Rd_sign (x1 : Int) (G : St) : Option (Int × St) :=
  bd (Rd_skip G) fun _ G2 =>
  bd (Ft_is G2) fun z3 G4 =>
  if z3 = 0 then (if x1 = 61 then (bd (Rd_isAlone x1 61 G4) fun z10 G11 =>
  Rd_sign_b36 z10 G11)
  else (bd (Rd_isSign x1 G4) fun z5 G6 =>
  Rd_sign_b36 z5 G6))
  else (some (0, G4))
noncomputable def Rd_is (x1 : Int) (x2 : Int) (x3 : Int) (G : St) : Option (Int × St) :=
  tk (up G 150 13 x1) fun G1 =>
  tk (up G1 150 14 x2) fun G2 =>
  tk (up G2 150 15 x3) fun G3 =>
  some (0, G3)
noncomputable def Rd_findOperator_b250 (x2 : Int) (G : St) : Option (Int × St) :=
  if x2 = 61 then (bd (Rd_is 44 2 5 G) fun _ G10 =>
  some (0, G10))
  else (some (0, G))
noncomputable def Rd_findOperator_b448 (G : St) : Option (Int × St) :=
  bd (Rd_is 55 1 9 G) fun _ G12 =>
  some (0, G12)
noncomputable def Rd_findOperator_b214 (s0 : Int) (s1 : Int) (s2 : Int) (G : St) : Option (Int × St) :=
  bd (Rd_is s2 s1 s0 G) fun _ G14 =>
  some (0, G14)
noncomputable def Rd_findOperator_b203 (x2 : Int) (s0 : Int) (s1 : Int) (G : St) : Option (Int × St) :=
  Rd_findOperator_b214 (if x2 = 38 then 1 else 4) s0 s1 G
noncomputable def Rd_findOperator_b192 (x2 : Int) (s0 : Int) (G : St) : Option (Int × St) :=
  Rd_findOperator_b203 x2 (if x2 = 38 then 2 else 1) s0 G
noncomputable def Rd_findOperator_b176 (x2 : Int) (G : St) : Option (Int × St) :=
  Rd_findOperator_b192 x2 (if x2 = 38 then 39 else 42) G
noncomputable def Rd_findOperator_b422 (G : St) : Option (Int × St) :=
  bd (Rd_is 53 1 9 G) fun _ G16 =>
  some (0, G16)
noncomputable def Rd_findOperator_b396 (G : St) : Option (Int × St) :=
  bd (Rd_is 51 1 8 G) fun _ G18 =>
  some (0, G18)
noncomputable def Rd_findOperator_b409 (G : St) : Option (Int × St) :=
  bd (Rd_is 52 1 8 G) fun _ G20 =>
  some (0, G20)
noncomputable def Rd_findOperator_b435 (G : St) : Option (Int × St) :=
  bd (Rd_is 54 1 9 G) fun _ G22 =>
  some (0, G22)
noncomputable def Rd_findOperator_b326 (s0 : Int) (s1 : Int) (s2 : Int) (G : St) : Option (Int × St) :=
  bd (Rd_is s2 s1 s0 G) fun _ G24 =>
  some (0, G24)
noncomputable def Rd_findOperator_b313 (x2 : Int) (s0 : Int) (s1 : Int) (G : St) : Option (Int × St) :=
  Rd_findOperator_b326 (if x2 = 60 then 7 else 6) s0 s1 G
noncomputable def Rd_findOperator_b296 (x2 : Int) (s0 : Int) (G : St) : Option (Int × St) :=
  Rd_findOperator_b313 x2 (if x2 = 61 then 2 else (if x2 = 60 then 2 else 1)) s0 G
noncomputable def Rd_findOperator_b268 (x2 : Int) (G : St) : Option (Int × St) :=
  Rd_findOperator_b296 x2 (if x2 = 61 then 46 else (if x2 = 60 then 49 else 45)) G
noncomputable def Rd_findOperator_b232 (x2 : Int) (G : St) : Option (Int × St) :=
  if x2 = 61 then (bd (Rd_is 43 2 5 G) fun _ G26 =>
  some (0, G26))
  else (some (0, G))
noncomputable def Rd_findOperator_b390 (s0 : Int) (s1 : Int) (s2 : Int) (G : St) : Option (Int × St) :=
  bd (Rd_is s2 s1 s0 G) fun _ G28 =>
  some (0, G28)
noncomputable def Rd_findOperator_b377 (x2 : Int) (s0 : Int) (s1 : Int) (G : St) : Option (Int × St) :=
  Rd_findOperator_b390 (if x2 = 62 then 7 else 6) s0 s1 G
noncomputable def Rd_findOperator_b360 (x2 : Int) (s0 : Int) (G : St) : Option (Int × St) :=
  Rd_findOperator_b377 x2 (if x2 = 61 then 2 else (if x2 = 62 then 2 else 1)) s0 G
noncomputable def Rd_findOperator_b332 (x2 : Int) (G : St) : Option (Int × St) :=
  Rd_findOperator_b360 x2 (if x2 = 61 then 48 else (if x2 = 62 then 50 else 47)) G
noncomputable def Rd_findOperator_b220 (G : St) : Option (Int × St) :=
  bd (Rd_is 41 1 3 G) fun _ G30 =>
  some (0, G30)
noncomputable def Rd_findOperator_b170 (s0 : Int) (s1 : Int) (s2 : Int) (G : St) : Option (Int × St) :=
  bd (Rd_is s2 s1 s0 G) fun _ G32 =>
  some (0, G32)
noncomputable def Rd_findOperator_b159 (x2 : Int) (s0 : Int) (s1 : Int) (G : St) : Option (Int × St) :=
  Rd_findOperator_b170 (if x2 = 124 then 0 else 2) s0 s1 G
noncomputable def Rd_findOperator_b148 (x2 : Int) (s0 : Int) (G : St) : Option (Int × St) :=
  Rd_findOperator_b159 x2 (if x2 = 124 then 2 else 1) s0 G
noncomputable def Rd_findOperator_b132 (x2 : Int) (G : St) : Option (Int × St) :=
  Rd_findOperator_b148 x2 (if x2 = 124 then 38 else 40) G
noncomputable def Rd_findOperator (G : St) : Option (Int × St) :=
  bd (Rd_skip G) fun _ G2 =>
  bd (Rd_is 60 0 (-1) G2) fun _ G4 =>
  bd (Rd_look 0 G4) fun z5 G6 =>
  bd (Rd_look 1 G6) fun z7 G8 =>
  sw z5 [(33, Rd_findOperator_b250 z7 G8), (37, Rd_findOperator_b448 G8), (38, Rd_findOperator_b176 z7 G8), (42, Rd_findOperator_b422 G8), (43, Rd_findOperator_b396 G8), (45, Rd_findOperator_b409 G8), (47, Rd_findOperator_b435 G8), (60, Rd_findOperator_b268 z7 G8), (61, Rd_findOperator_b232 z7 G8), (62, Rd_findOperator_b332 z7 G8), (94, Rd_findOperator_b220 G8), (124, Rd_findOperator_b132 z7 G8)] (some (0, G8))
noncomputable def Rd_isDigit (x0 : Int) (G : St) : Option (Int × St) :=
  ckB (if x0 < 48 then 0 else (if 57 < x0 then 0 else 1)) 2 (some ((if x0 < 48 then 0 else (if 57 < x0 then 0 else 1)), G))
noncomputable def Rd_isLetter_b12 (x0 : Int) (G : St) : Option (Int × St) :=
  ckB (if x0 < 65 then (if x0 = 95 then 1 else 0) else (if 90 < x0 then (if x0 = 95 then 1 else 0) else 1)) 2 (some ((if x0 < 65 then (if x0 = 95 then 1 else 0) else (if 90 < x0 then (if x0 = 95 then 1 else 0) else 1)), G))
noncomputable def Rd_isLetter (x0 : Int) (G : St) : Option (Int × St) :=
  if x0 < 97 then (Rd_isLetter_b12 x0 G)
  else (ckB (if 122 < x0 then (if x0 < 65 then (if x0 = 95 then 1 else 0) else (if 90 < x0 then (if x0 = 95 then 1 else 0) else 1)) else 1) 2 (some ((if 122 < x0 then (if x0 < 65 then (if x0 = 95 then 1 else 0) else (if 90 < x0 then (if x0 = 95 then 1 else 0) else 1)) else 1), G)))
noncomputable def Rd_wordEnd_b63 (x1 : Int) (G : St) : Option (Int × St) :=
  some (x1, G)
noncomputable def Rd_wordEnd_b57 (x1 : Int) (G : St) : Option ((Int × St) ⊕ (Int × St)) :=
  ckI (x1 + 1) <| some (Sum.inl (x1 + 1, G))
noncomputable def Rd_wordEnd_s25 (x1 : Int) (G : St) : Option ((Int × St) ⊕ (Int × St)) :=
  if x1 < (G 150 1) then (ckB x1 4000 <| bd (Rd_isLetter (G 151 x1) G) fun z3 G4 =>
  if z3 = 0 then (ckB x1 4000 <| bd (Rd_isDigit (G4 151 x1) G4) fun z5 G6 =>
  if z5 = 0 then (ex (Rd_wordEnd_b63 x1 G6))
  else (Rd_wordEnd_b57 x1 G6))
  else (Rd_wordEnd_b57 x1 G4))
  else (ex (Rd_wordEnd_b63 x1 G))
noncomputable def Rd_wordEnd_l25 (x1 : Int) (G : St) : Option (Int × St) :=
  wh (fun s => Rd_wordEnd_s25 s.1 s.2) (x1, G)
theorem Rd_wordEnd_l25_eq (x1 : Int) (G : St) : Rd_wordEnd_l25 x1 G = (Rd_wordEnd_s25 x1 G).bind (lk (fun s => Rd_wordEnd_l25 s.1 s.2) some) := by
  exact wh_eq _ _
noncomputable def Rd_wordEnd (G : St) : Option (Int × St) :=
  if (G 150 2) < (G 150 1) then (ckB (G 150 2) 4000 <| bd (Rd_isLetter (G 151 (G 150 2)) G) fun z1 G2 =>
  if z1 = 0 then (Rd_wordEnd_b63 (G 150 2) G2)
  else (Rd_wordEnd_l25 (G 150 2) G2))
  else (Rd_wordEnd_b63 (G 150 2) G)
noncomputable def Rd_isWord_s22 (x1 : Int) (x2 : Int) (x3 : Int) (G : St) : Option ((Int × St) ⊕ (Int × St)) :=
  if x3 < x2 then (ckI ((G 150 2) + x3) <| ckB ((G 150 2) + x3) 4000 <| bd (S_chr x1 x3 G) fun z5 G6 =>
  if (G 151 ((G 150 2) + x3)) = z5 then (ckI (x3 + 1) <| some (Sum.inl (x3 + 1, G6)))
  else (ex (ckB 0 2 (some (0, G6)))))
  else (ex (ckB 1 2 (some (1, G))))
noncomputable def Rd_isWord_l22 (x1 : Int) (x2 : Int) (x3 : Int) (G : St) : Option (Int × St) :=
  wh (fun s => Rd_isWord_s22 x1 x2 s.1 s.2) (x3, G)
theorem Rd_isWord_l22_eq (x1 : Int) (x2 : Int) (x3 : Int) (G : St) : Rd_isWord_l22 x1 x2 x3 G = (Rd_isWord_s22 x1 x2 x3 G).bind (lk (fun s => Rd_isWord_l22 x1 x2 s.1 s.2) some) := by
  exact wh_eq _ _
noncomputable def Rd_isWord (x1 : Int) (G : St) : Option (Int × St) :=
  bd (S_len x1 G) fun z1 G2 =>
  bd (Rd_wordEnd G2) fun z3 G4 =>
  ckI (z3 - (G4 150 2)) <| if (z3 - (G4 150 2)) = z1 then (Rd_isWord_l22 x1 z1 0 G4)
  else (ckB 0 2 (some (0, G4)))
noncomputable def Rd_number_b130 (x5 : Int) (x7 : Int) (G : St) : Option (Int × St) :=
  ckI ((G 150 2) + x7) <| tk (up G 150 2 ((G 150 2) + x7)) fun G16 =>
  some (w32 x5, G16)
noncomputable def Rd_number_b118 (x5 : Int) (x7 : Int) (G : St) : Option (Int × St) :=
  bd (Ft_set 2 (G 150 2) G) fun _ G15 =>
  Rd_number_b130 x5 x7 G15
noncomputable def Rd_number_b89 (x1 : Int) (x3 : Int) (x7 : Int) (s0 : Int) (G : St) : Option ((Int × Int × St) ⊕ (Int × St)) :=
  ckI (x7 + 1) <| some (Sum.inl (s0, x7 + 1, G))
noncomputable def Rd_number_s47 (x1 : Int) (x3 : Int) (x5 : Int) (x7 : Int) (G : St) : Option ((Int × Int × St) ⊕ (Int × St)) :=
  bd (Rd_look x7 G) fun z10 G11 =>
  bd (Rd_isDigit z10 G11) fun z12 G13 =>
  if z12 = 0 then (ex (if 10 < x7 then (Rd_number_b118 x5 x7 G13)
  else (if x5 < x1 then (Rd_number_b118 x5 x7 G13)
  else (if x3 < x5 then (Rd_number_b118 x5 x7 G13)
  else (Rd_number_b130 x5 x7 G13)))))
  else (if x7 < 10 then (ckL (10 * x5) <| bd (Rd_look x7 G13) fun z17 G18 =>
  ckL ((10 * x5) + z17) <| ckL (((10 * x5) + z17) - 48) <| Rd_number_b89 x1 x3 x7 (((10 * x5) + z17) - 48) G18)
  else (Rd_number_b89 x1 x3 x7 x5 G13))
noncomputable def Rd_number_l47 (x1 : Int) (x3 : Int) (x5 : Int) (x7 : Int) (G : St) : Option (Int × St) :=
  wh (fun s => Rd_number_s47 x1 x3 s.1 s.2.1 s.2.2) (x5, x7, G)
theorem Rd_number_l47_eq (x1 : Int) (x3 : Int) (x5 : Int) (x7 : Int) (G : St) : Rd_number_l47 x1 x3 x5 x7 G = (Rd_number_s47 x1 x3 x5 x7 G).bind (lk (fun s => Rd_number_l47 x1 x3 s.1 s.2.1 s.2.2) some) := by
  exact wh_eq _ _
noncomputable def Rd_number (x1 : Int) (x3 : Int) (G : St) : Option (Int × St) :=
  bd (Rd_skip G) fun _ G2 =>
  bd (Ft_is G2) fun z3 G4 =>
  if z3 = 0 then (tk (up G4 150 10 (G4 150 2)) fun G5 =>
  bd (Rd_look 0 G5) fun z6 G7 =>
  bd (Rd_isDigit z6 G7) fun z8 G9 =>
  if z8 = 0 then (bd (Rd_bad G9) fun _ G20 =>
  some (0, G20))
  else (Rd_number_l47 x1 x3 0 0 G9))
  else (some (0, G4))
noncomputable def Nm_is_s16 (x1 : Int) (x3 : Int) (x4 : Int) (x5 : Int) (G : St) : Option ((Int × St) ⊕ (Int × St)) :=
  if x5 < x4 then (ckB x1 2001 <| ckI ((G 122 x1) + x5) <| ckB ((G 122 x1) + x5) 4000 <| ckI (x3 + x5) <| ckB (x3 + x5) 4000 <| if (G 121 ((G 122 x1) + x5)) = (G 151 (x3 + x5)) then (ckI (x5 + 1) <| some (Sum.inl (x5 + 1, G)))
  else (ex (ckB 0 2 (some (0, G)))))
  else (ex (ckB 1 2 (some (1, G))))
noncomputable def Nm_is_l16 (x1 : Int) (x3 : Int) (x4 : Int) (x5 : Int) (G : St) : Option (Int × St) :=
  wh (fun s => Nm_is_s16 x1 x3 x4 s.1 s.2) (x5, G)
theorem Nm_is_l16_eq (x1 : Int) (x3 : Int) (x4 : Int) (x5 : Int) (G : St) : Nm_is_l16 x1 x3 x4 x5 G = (Nm_is_s16 x1 x3 x4 x5 G).bind (lk (fun s => Nm_is_l16 x1 x3 x4 s.1 s.2) some) := by
  exact wh_eq _ _
noncomputable def Nm_is (x1 : Int) (x3 : Int) (x4 : Int) (G : St) : Option (Int × St) :=
  ckB x1 2001 <| if (G 123 x1) = x4 then (Nm_is_l16 x1 x3 x4 0 G)
  else (ckB 0 2 (some (0, G)))
noncomputable def Nm_number_s3 (x2 : Int) (x3 : Int) (x4 : Int) (G : St) : Option ((Int × St) ⊕ (Int × St)) :=
  if x4 < (G 120 3) then (bd (Nm_is x4 x2 x3 G) fun z6 G7 =>
  if z6 = 0 then (ckI (x4 + 1) <| some (Sum.inl (x4 + 1, G7)))
  else (ex (some (x4, G7))))
  else (ex (ckB (G 120 3) 2001 <| tk (up G 122 (G 120 3) (G 120 4)) fun G1 =>
  ckB (G1 120 3) 2001 <| tk (up G1 123 (G1 120 3) x3) fun G2 =>
  ckA x2 x3 4000 <| ckA (G2 120 4) x3 4000 <| tk (acp G2 151 x2 121 (G2 120 4) x3) fun G3 =>
  ckI ((G3 120 4) + x3) <| tk (up G3 120 4 ((G3 120 4) + x3)) fun G4 =>
  ckI ((G4 120 3) + 1) <| tk (up G4 120 3 ((G4 120 3) + 1)) fun G5 =>
  ckI ((G5 120 3) - 1) <| some ((G5 120 3) - 1, G5)))
noncomputable def Nm_number_l3 (x2 : Int) (x3 : Int) (x4 : Int) (G : St) : Option (Int × St) :=
  wh (fun s => Nm_number_s3 x2 x3 s.1 s.2) (x4, G)
theorem Nm_number_l3_eq (x2 : Int) (x3 : Int) (x4 : Int) (G : St) : Nm_number_l3 x2 x3 x4 G = (Nm_number_s3 x2 x3 x4 G).bind (lk (fun s => Nm_number_l3 x2 x3 s.1 s.2) some) := by
  exact wh_eq _ _
noncomputable def Nm_number (x2 : Int) (x3 : Int) (G : St) : Option (Int × St) :=
  Nm_number_l3 x2 x3 0 G
noncomputable def Rd_isKeyword (G : St) : Option (Int × St) :=
  bd (Rd_isWord 70 G) fun z1 G2 =>
  if z1 = 0 then (bd (Rd_isWord 71 G2) fun z3 G4 =>
  if z3 = 0 then (bd (Rd_isWord 72 G4) fun z5 G6 =>
  if z5 = 0 then (bd (Rd_isWord 73 G6) fun z7 G8 =>
  if z7 = 0 then (bd (Rd_isWord 74 G8) fun z9 G10 =>
  if z9 = 0 then (bd (Rd_isWord 75 G10) fun z11 G12 =>
  if z11 = 0 then (bd (Rd_isWord 76 G12) fun z13 G14 =>
  if z13 = 0 then (bd (Rd_isWord 77 G14) fun z15 G16 =>
  if z15 = 0 then (bd (Rd_isWord 78 G16) fun z17 G18 =>
  if z17 = 0 then (bd (Rd_isWord 79 G18) fun z19 G20 =>
  if z19 = 0 then (bd (Rd_isWord 80 G20) fun z21 G22 =>
  if z21 = 0 then (bd (Rd_isWord 81 G22) fun z23 G24 =>
  if z23 = 0 then (bd (Rd_isWord 82 G24) fun z25 G26 =>
  ckB (if z25 = 0 then 0 else 1) 2 (some ((if z25 = 0 then 0 else 1), G26)))
  else (ckB 1 2 (some (1, G24))))
  else (ckB 1 2 (some (1, G22))))
  else (ckB 1 2 (some (1, G20))))
  else (ckB 1 2 (some (1, G18))))
  else (ckB 1 2 (some (1, G16))))
  else (ckB 1 2 (some (1, G14))))
  else (ckB 1 2 (some (1, G12))))
  else (ckB 1 2 (some (1, G10))))
  else (ckB 1 2 (some (1, G8))))
  else (ckB 1 2 (some (1, G6))))
  else (ckB 1 2 (some (1, G4))))
  else (ckB 1 2 (some (1, G2)))
noncomputable def Rd_name_b74 (x1 : Int) (G : St) : Option (Int × St) :=
  bd (Ft_is G) fun z10 G11 =>
  if z10 = 0 then (ckI (x1 - (G11 150 2)) <| bd (Nm_number (G11 150 2) (x1 - (G11 150 2)) G11) fun z12 G13 =>
  tk (up G13 150 2 x1) fun G14 =>
  some (z12, G14))
  else (some (0, G11))
noncomputable def Rd_name_b44 (x1 : Int) (G : St) : Option (Int × St) :=
  bd (Rd_bad G) fun _ G9 =>
  Rd_name_b74 x1 G9
noncomputable def Rd_name (G : St) : Option (Int × St) :=
  bd (Rd_skip G) fun _ G2 =>
  bd (Ft_is G2) fun z3 G4 =>
  if z3 = 0 then (bd (Rd_wordEnd G4) fun z5 G6 =>
  tk (up G6 150 10 (G6 150 2)) fun G7 =>
  if z5 = (G7 150 2) then (Rd_name_b44 z5 G7)
  else (bd (Rd_isKeyword G7) fun z15 G16 =>
  if z15 = 0 then (ckI (z5 - (G16 150 2)) <| if 16 < (z5 - (G16 150 2)) then (bd (Ft_set 2 (G16 150 2) G16) fun _ G18 =>
  Rd_name_b74 z5 G18)
  else (Rd_name_b74 z5 G16))
  else (Rd_name_b44 z5 G16)))
  else (some (0, G4))
noncomputable def Rd_expr (Rf : Nat → List Int → St → Option (Int × St)) (G : St) : Option (Int × St) :=
  bd (Ft_is G) fun z1 G2 =>
  if z1 = 0 then (bd (Rf 1 [0] G2) fun _ G4 =>
  bd (Ft_is G4) fun z5 G6 =>
  if z5 = 0 then (bd (Rd_isSign 63 G6) fun z7 G8 =>
  if z7 = 0 then (some (0, G8))
  else (bd (Rd_enter (G8 150 2) G8) fun _ G10 =>
  ckI ((G10 150 2) + 1) <| tk (up G10 150 2 ((G10 150 2) + 1)) fun G11 =>
  bd (Rf 0 [] G11) fun _ G13 =>
  bd (Rd_sign 58 G13) fun _ G15 =>
  bd (Rf 0 [] G15) fun _ G17 =>
  ckI ((G17 150 3) - 1) <| tk (up G17 150 3 ((G17 150 3) - 1)) fun G18 =>
  bd (Cd_add 59 0 (G8 150 2) 0 G18) fun z19 G20 =>
  some (0, G20)))
  else (some (0, G6)))
  else (some (0, G2))
noncomputable def Rd_row_b88 (Rf : Nat → List Int → St → Option (Int × St)) (x1 : Int) (x2 : Int) (x3 : Int) (G : St) : Option ((St) ⊕ (Int × St)) :=
  bd (Cd_add x2 0 x3 0 G) fun z12 G13 =>
  bd (Ft_is G13) fun z14 G15 =>
  if z14 = 0 then (bd (Rd_findOperator G15) fun _ G17 =>
  some (Sum.inl (G17)))
  else (some (Sum.inl (G15)))
noncomputable def Rd_row_s19 (Rf : Nat → List Int → St → Option (Int × St)) (x1 : Int) (G : St) : Option ((St) ⊕ (Int × St)) :=
  bd (Ft_is G) fun z7 G8 =>
  if z7 = 0 then (if (G8 150 15) < x1 then (ex (some (0, G8)))
  else (ckI ((G8 150 15) + 1) <| ckI ((G8 150 2) + (G8 150 14)) <| tk (up G8 150 2 ((G8 150 2) + (G8 150 14))) fun G9 =>
  if ((G8 150 15) + 1) < 10 then (bd (Rf 1 [(G8 150 15) + 1] G9) fun _ G19 =>
  Rd_row_b88 Rf x1 (G8 150 13) (G8 150 2) G19)
  else (bd (Rf 2 [] G9) fun _ G11 =>
  Rd_row_b88 Rf x1 (G8 150 13) (G8 150 2) G11)))
  else (ex (some (0, G8)))
noncomputable def Rd_row_l19 (Rf : Nat → List Int → St → Option (Int × St)) (x1 : Int) (G : St) : Option (Int × St) :=
  wh (fun s => Rd_row_s19 Rf x1 s) (G)
theorem Rd_row_l19_eq (Rf : Nat → List Int → St → Option (Int × St)) (x1 : Int) (G : St) : Rd_row_l19 Rf x1 G = (Rd_row_s19 Rf x1 G).bind (lk (fun s => Rd_row_l19 Rf x1 s) some) := by
  exact wh_eq _ _
noncomputable def Rd_row (Rf : Nat → List Int → St → Option (Int × St)) (x1 : Int) (G : St) : Option (Int × St) :=
  bd (Rf 2 [] G) fun _ G2 =>
  bd (Ft_is G2) fun z3 G4 =>
  if z3 = 0 then (bd (Rd_findOperator G4) fun _ G6 =>
  Rd_row_l19 Rf x1 G6)
  else (some (0, G4))
noncomputable def Rd_factor_b114 (Rf : Nat → List Int → St → Option (Int × St)) (x1 : Int) (s0 : Int) (G : St) : Option (Int × St) :=
  bd (Cd_add s0 0 x1 0 G) fun z13 G14 =>
  some (0, G14)
noncomputable def Rd_factor_b54 (Rf : Nat → List Int → St → Option (Int × St)) (x1 : Int) (x2 : Int) (G : St) : Option (Int × St) :=
  bd (Rd_enter x1 G) fun _ G8 =>
  ckI ((G8 150 2) + 1) <| tk (up G8 150 2 ((G8 150 2) + 1)) fun G9 =>
  bd (Rf 2 [] G9) fun _ G11 =>
  ckI ((G11 150 3) - 1) <| tk (up G11 150 3 ((G11 150 3) - 1)) fun G12 =>
  Rd_factor_b114 Rf x1 (if x2 = 45 then 56 else (if x2 = 126 then 57 else 58)) G12
noncomputable def Rd_factor_b239 (Rf : Nat → List Int → St → Option (Int × St)) (x1 : Int) (s0 : Int) (G : St) : Option (Int × St) :=
  bd (Cd_add s0 0 x1 0 G) fun z21 G22 =>
  bd (Rd_wordEnd G22) fun z23 G24 =>
  tk (up G24 150 2 z23) fun G25 =>
  some (0, G25)
noncomputable def Rd_factor_b217 (Rf : Nat → List Int → St → Option (Int × St)) (x1 : Int) (G : St) : Option (Int × St) :=
  bd (Rd_isWord 81 G) fun z19 G20 =>
  Rd_factor_b239 Rf x1 (if z19 = 0 then 24 else 23) G20
noncomputable def Rd_factor_b124 (Rf : Nat → List Int → St → Option (Int × St)) (x1 : Int) (x2 : Int) (G : St) : Option (Int × St) :=
  if x2 = 40 then (bd (Cd_add 36 0 x1 0 G) fun z48 G49 =>
  bd (Rf 3 [] G49) fun _ G51 =>
  bd (Cd_add 37 0 x1 0 G51) fun z52 G53 =>
  some (0, G53))
  else (bd (Rd_isDigit x2 G) fun z15 G16 =>
  if z15 = 0 then (bd (Rd_isWord 81 G16) fun z17 G18 =>
  if z17 = 0 then (bd (Rd_isWord 82 G18) fun z26 G27 =>
  if z26 = 0 then (bd (Rd_isWord 79 G27) fun z28 G29 =>
  if z28 = 0 then (bd (Rd_isWord 80 G29) fun z30 G31 =>
  if z30 = 0 then (bd (Rf 5 [x1] G31) fun _ G33 =>
  some (0, G33))
  else (ckI ((G31 150 2) + 3) <| tk (up G31 150 2 ((G31 150 2) + 3)) fun G34 =>
  bd (Rf 4 [x1] G34) fun _ G36 =>
  some (0, G36)))
  else (ckI ((G29 150 2) + 3) <| tk (up G29 150 2 ((G29 150 2) + 3)) fun G37 =>
  bd (Cd_add 31 0 x1 0 G37) fun z38 G39 =>
  bd (Rf 3 [] G39) fun _ G41 =>
  bd (Cd_add 32 0 x1 0 G41) fun z42 G43 =>
  some (0, G43)))
  else (Rd_factor_b217 Rf x1 G27))
  else (Rd_factor_b217 Rf x1 G18))
  else (bd (Rd_number 0 4294967295 G16) fun z44 G45 =>
  bd (Cd_add 22 z44 x1 0 G45) fun z46 G47 =>
  some (0, G47)))
noncomputable def Rd_factor (Rf : Nat → List Int → St → Option (Int × St)) (G : St) : Option (Int × St) :=
  bd (Rd_skip G) fun _ G2 =>
  bd (Ft_is G2) fun z3 G4 =>
  if z3 = 0 then (bd (Rd_look 0 G4) fun z5 G6 =>
  if z5 = 45 then (Rd_factor_b54 Rf (G4 150 2) z5 G6)
  else (if z5 = 126 then (Rd_factor_b54 Rf (G4 150 2) z5 G6)
  else (if z5 = 33 then (bd (Rd_look 1 G6) fun z54 G55 =>
  if z54 = 61 then (Rd_factor_b124 Rf (G4 150 2) z5 G55)
  else (Rd_factor_b54 Rf (G4 150 2) z5 G55))
  else (Rd_factor_b124 Rf (G4 150 2) z5 G6))))
  else (some (0, G4))
noncomputable def Rd_around (Rf : Nat → List Int → St → Option (Int × St)) (G : St) : Option (Int × St) :=
  bd (Rd_skip G) fun _ G2 =>
  bd (Ft_is G2) fun z3 G4 =>
  if z3 = 0 then (bd (Rd_look 0 G4) fun z5 G6 =>
  if z5 = 40 then (bd (Rd_enter (G6 150 2) G6) fun _ G8 =>
  ckI ((G8 150 2) + 1) <| tk (up G8 150 2 ((G8 150 2) + 1)) fun G9 =>
  bd (Rf 0 [] G9) fun _ G11 =>
  bd (Rd_sign 41 G11) fun _ G13 =>
  ckI ((G13 150 3) - 1) <| tk (up G13 150 3 ((G13 150 3) - 1)) fun G14 =>
  some (0, G14))
  else (bd (Rd_bad G6) fun _ G16 =>
  some (0, G16)))
  else (some (0, G4))
noncomputable def Rd_bitOf (Rf : Nat → List Int → St → Option (Int × St)) (x1 : Int) (G : St) : Option (Int × St) :=
  bd (Cd_add 33 0 x1 0 G) fun z1 G2 =>
  bd (Rd_skip G2) fun _ G4 =>
  bd (Rd_look 0 G4) fun z5 G6 =>
  if z5 = 40 then (bd (Rd_enter (G6 150 2) G6) fun _ G8 =>
  ckI ((G8 150 2) + 1) <| tk (up G8 150 2 ((G8 150 2) + 1)) fun G9 =>
  bd (Rf 0 [] G9) fun _ G11 =>
  bd (Cd_add 34 0 x1 0 G11) fun z12 G13 =>
  bd (Rd_sign 44 G13) fun _ G15 =>
  bd (Rf 0 [] G15) fun _ G17 =>
  bd (Rd_sign 41 G17) fun _ G19 =>
  ckI ((G19 150 3) - 1) <| tk (up G19 150 3 ((G19 150 3) - 1)) fun G20 =>
  bd (Cd_add 35 0 x1 0 G20) fun z21 G22 =>
  some (0, G22))
  else (bd (Rd_bad G6) fun _ G24 =>
  some (0, G24))
noncomputable def Rd_named (Rf : Nat → List Int → St → Option (Int × St)) (x1 : Int) (G : St) : Option (Int × St) :=
  bd (Rd_name G) fun z1 G2 =>
  bd (Ft_is G2) fun z3 G4 =>
  if z3 = 0 then (bd (Rd_isSign 91 G4) fun z5 G6 =>
  if z5 = 0 then (bd (Rd_look 0 G6) fun z7 G8 =>
  if z7 = 40 then (bd (Rf 6 [z1, x1] G8) fun _ G12 =>
  some (0, G12))
  else (bd (Cd_add 25 z1 x1 0 G8) fun z9 G10 =>
  some (0, G10)))
  else (bd (Cd_add 26 z1 x1 0 G6) fun z13 G14 =>
  bd (Rd_enter (G14 150 2) G14) fun _ G16 =>
  ckI ((G16 150 2) + 1) <| tk (up G16 150 2 ((G16 150 2) + 1)) fun G17 =>
  bd (Rf 0 [] G17) fun _ G19 =>
  bd (Rd_sign 93 G19) fun _ G21 =>
  ckI ((G21 150 3) - 1) <| tk (up G21 150 3 ((G21 150 3) - 1)) fun G22 =>
  bd (Cd_add 27 z1 x1 0 G22) fun z23 G24 =>
  some (0, G24)))
  else (some (0, G4))
noncomputable def Rd_call_b133 (Rf : Nat → List Int → St → Option (Int × St)) (x1 : Int) (x2 : Int) (x3 : Int) (x4 : Int) (G : St) : Option (Int × St) :=
  bd (Rd_sign 41 G) fun _ G9 =>
  ckI ((G9 150 3) - 1) <| tk (up G9 150 3 ((G9 150 3) - 1)) fun G10 =>
  ckB x3 12000 <| tk (up G10 114 x3 x4) fun G11 =>
  bd (Cd_add 30 x1 x2 x4 G11) fun z12 G13 =>
  some (0, G13)
noncomputable def Rd_call_b113 (Rf : Nat → List Int → St → Option (Int × St)) (x1 : Int) (x2 : Int) (x3 : Int) (x4 : Int) (s0 : Int) (G : St) : Option ((Int × Int × St) ⊕ (Int × St)) :=
  if s0 = 0 then (some (Sum.inl (x4, s0, G)))
  else (ckI ((G 150 2) + 1) <| tk (up G 150 2 ((G 150 2) + 1)) fun G22 =>
  some (Sum.inl (x4, s0, G22)))
noncomputable def Rd_call_s51 (Rf : Nat → List Int → St → Option (Int × St)) (x1 : Int) (x2 : Int) (x3 : Int) (x4 : Int) (x5 : Int) (G : St) : Option ((Int × Int × St) ⊕ (Int × St)) :=
  if x5 = 0 then (ex (Rd_call_b133 Rf x1 x2 x3 x4 G))
  else (bd (Ft_is G) fun z14 G15 =>
  if z14 = 0 then (bd (Rf 0 [] G15) fun _ G17 =>
  bd (Cd_add 29 x1 x2 x4 G17) fun z18 G19 =>
  ckI (x4 + 1) <| bd (Ft_is G19) fun z20 G21 =>
  if z20 = 0 then (bd (Rd_isSign 44 G21) fun z23 G24 =>
  Rd_call_b113 Rf x1 x2 x3 (x4 + 1) (if z23 = 0 then 0 else 1) G24)
  else (Rd_call_b113 Rf x1 x2 x3 (x4 + 1) 0 G21))
  else (ex (Rd_call_b133 Rf x1 x2 x3 x4 G15)))
noncomputable def Rd_call_l51 (Rf : Nat → List Int → St → Option (Int × St)) (x1 : Int) (x2 : Int) (x3 : Int) (x4 : Int) (x5 : Int) (G : St) : Option (Int × St) :=
  wh (fun s => Rd_call_s51 Rf x1 x2 x3 s.1 s.2.1 s.2.2) (x4, x5, G)
theorem Rd_call_l51_eq (Rf : Nat → List Int → St → Option (Int × St)) (x1 : Int) (x2 : Int) (x3 : Int) (x4 : Int) (x5 : Int) (G : St) : Rd_call_l51 Rf x1 x2 x3 x4 x5 G = (Rd_call_s51 Rf x1 x2 x3 x4 x5 G).bind (lk (fun s => Rd_call_l51 Rf x1 x2 x3 s.1 s.2.1 s.2.2) some) := by
  exact wh_eq _ _
noncomputable def Rd_call_b49 (Rf : Nat → List Int → St → Option (Int × St)) (x1 : Int) (x2 : Int) (x3 : Int) (x4 : Int) (s0 : Int) (G : St) : Option (Int × St) :=
  Rd_call_l51 Rf x1 x2 x3 x4 s0 G
noncomputable def Rd_call (Rf : Nat → List Int → St → Option (Int × St)) (x1 : Int) (x2 : Int) (G : St) : Option (Int × St) :=
  bd (Cd_add 28 x1 x2 0 G) fun z1 G2 =>
  bd (Rd_enter (G2 150 2) G2) fun _ G4 =>
  ckI ((G4 150 2) + 1) <| tk (up G4 150 2 ((G4 150 2) + 1)) fun G5 =>
  bd (Rd_isSign 41 G5) fun z6 G7 =>
  Rd_call_b49 Rf x1 x2 z1 0 (if z6 = 0 then 1 else 0) G7
noncomputable def RE : Nat → Nat → List Int → St → Option (Int × St)
  | 0, _, _, _ => none
  | d + 1, 0, a, G => Rd_expr (RE d)  G
  | d + 1, 1, a, G => Rd_row (RE d) (a.getD 0 0) G
  | d + 1, 2, a, G => Rd_factor (RE d)  G
  | d + 1, 3, a, G => Rd_around (RE d)  G
  | d + 1, 4, a, G => Rd_bitOf (RE d) (a.getD 0 0) G
  | d + 1, 5, a, G => Rd_named (RE d) (a.getD 0 0) G
  | d + 1, 6, a, G => Rd_call (RE d) (a.getD 0 0) (a.getD 1 0) G
  | _ + 1, _, _, _ => none
noncomputable def Rd_exprO  (G : St) : Option (Int × St) := RE DX 0 [] G
noncomputable def Rd_rowO (x1 : Int) (G : St) : Option (Int × St) := RE DX 1 [x1] G
noncomputable def Rd_factorO  (G : St) : Option (Int × St) := RE DX 2 [] G
noncomputable def Rd_aroundO  (G : St) : Option (Int × St) := RE DX 3 [] G
noncomputable def Rd_bitOfO (x1 : Int) (G : St) : Option (Int × St) := RE DX 4 [x1] G
noncomputable def Rd_namedO (x1 : Int) (G : St) : Option (Int × St) := RE DX 5 [x1] G
noncomputable def Rd_callO (x1 : Int) (x2 : Int) (G : St) : Option (Int × St) := RE DX 6 [x1, x2] G
noncomputable def Rd_sort_b42 (x1 : Int) (G : St) : Option (Int × St) :=
  ckI ((G 150 2) + 3) <| tk (up G 150 2 ((G 150 2) + 3)) fun G7 =>
  some ((if x1 = 0 then 0 else 1), G7)
noncomputable def Rd_sort (G : St) : Option (Int × St) :=
  bd (Rd_skip G) fun _ G2 =>
  bd (Ft_is G2) fun z3 G4 =>
  if z3 = 0 then (bd (Rd_isWord 80 G4) fun z5 G6 =>
  if z5 = 0 then (bd (Rd_isWord 79 G6) fun z8 G9 =>
  if z8 = 0 then (bd (Rd_bad G9) fun _ G11 =>
  some (0, G11))
  else (Rd_sort_b42 z5 G9))
  else (Rd_sort_b42 z5 G6))
  else (some (0, G4))
noncomputable def Rd_params_b92 (G : St) : Option (Int × St) :=
  bd (Rd_sign 41 G) fun _ G2 =>
  some (0, G2)
noncomputable def Rd_params_b74 (s0 : Int) (G : St) : Option ((Int × St) ⊕ (Int × St)) :=
  if s0 = 0 then (some (Sum.inl (s0, G)))
  else (ckI ((G 150 2) + 1) <| tk (up G 150 2 ((G 150 2) + 1)) fun G15 =>
  some (Sum.inl (s0, G15)))
noncomputable def Rd_params_s2 (x1 : Int) (G : St) : Option ((Int × St) ⊕ (Int × St)) :=
  if x1 = 0 then (ex (Rd_params_b92 G))
  else (bd (Ft_is G) fun z3 G4 =>
  if z3 = 0 then (bd (Rd_name G4) fun z5 G6 =>
  bd (Rd_sign 58 G6) fun _ G8 =>
  bd (Rd_sort G8) fun z9 G10 =>
  bd (Cd_add 2 z5 (G6 150 10) z9 G10) fun z11 G12 =>
  bd (Ft_is G12) fun z13 G14 =>
  if z13 = 0 then (bd (Rd_isSign 44 G14) fun z16 G17 =>
  Rd_params_b74 (if z16 = 0 then 0 else 1) G17)
  else (Rd_params_b74 0 G14))
  else (ex (Rd_params_b92 G4)))
noncomputable def Rd_params_l2 (x1 : Int) (G : St) : Option (Int × St) :=
  wh (fun s => Rd_params_s2 s.1 s.2) (x1, G)
theorem Rd_params_l2_eq (x1 : Int) (G : St) : Rd_params_l2 x1 G = (Rd_params_s2 x1 G).bind (lk (fun s => Rd_params_l2 s.1 s.2) some) := by
  exact wh_eq _ _
noncomputable def Rd_params (G : St) : Option (Int × St) :=
  Rd_params_l2 1 G
noncomputable def Rd_def_b74 (x1 : Int) (x2 : Int) (G : St) : Option (Int × St) :=
  bd (Rd_sign 58 G) fun _ G13 =>
  bd (Rd_sort G13) fun z14 G15 =>
  bd (Rd_sign 61 G15) fun _ G17 =>
  bd (Rd_exprO G17) fun _ G19 =>
  bd (Rd_sign 59 G19) fun _ G21 =>
  bd (Cd_add 3 x1 (G21 150 2) z14 G21) fun z22 G23 =>
  ckB x2 12000 <| tk (up G23 114 x2 z22) fun G24 =>
  some (0, G24)
noncomputable def Rd_def_b70 (x1 : Int) (x2 : Int) (G : St) : Option (Int × St) :=
  bd (Rd_params G) fun _ G11 =>
  Rd_def_b74 x1 x2 G11
noncomputable def Rd_def (G : St) : Option (Int × St) :=
  ckI ((G 150 2) + 3) <| tk (up G 150 2 ((G 150 2) + 3)) fun G1 =>
  bd (Rd_name G1) fun z2 G3 =>
  bd (Cd_add 1 z2 (G3 150 10) 0 G3) fun z4 G5 =>
  bd (Rd_sign 40 G5) fun _ G7 =>
  bd (Ft_is G7) fun z8 G9 =>
  if z8 = 0 then (bd (Rd_isSign 41 G9) fun z25 G26 =>
  if z25 = 0 then (Rd_def_b70 z2 z4 G26)
  else (ckI ((G26 150 2) + 1) <| tk (up G26 150 2 ((G26 150 2) + 1)) fun G27 =>
  Rd_def_b74 z2 z4 G27))
  else (Rd_def_b70 z2 z4 G9)
noncomputable def Rd_type (G : St) : Option (Int × St) :=
  bd (Rd_sort G) fun z1 G2 =>
  tk (up G2 150 11 z1) fun G3 =>
  tk (up G3 150 12 0) fun G4 =>
  bd (Ft_is G4) fun z5 G6 =>
  if z5 = 0 then (bd (Rd_isSign 91 G6) fun z7 G8 =>
  if z7 = 0 then (some (0, G8))
  else (ckI ((G8 150 2) + 1) <| tk (up G8 150 2 ((G8 150 2) + 1)) fun G9 =>
  bd (Rd_number 1 64 G9) fun z10 G11 =>
  tk (up G11 150 12 z10) fun G12 =>
  bd (Rd_sign 93 G12) fun _ G14 =>
  some (0, G14)))
  else (some (0, G6))
noncomputable def Rd_word (x1 : Int) (G : St) : Option (Int × St) :=
  bd (Rd_skip G) fun _ G2 =>
  bd (Ft_is G2) fun z3 G4 =>
  if z3 = 0 then (bd (Rd_isWord x1 G4) fun z5 G6 =>
  if z5 = 0 then (bd (Rd_bad G6) fun _ G8 =>
  some (0, G8))
  else (bd (S_len x1 G6) fun z9 G10 =>
  ckI ((G6 150 2) + z9) <| tk (up G10 150 2 ((G6 150 2) + z9)) fun G11 =>
  some (0, G11)))
  else (some (0, G4))
noncomputable def Rd_input_b96 (P W : Int) (x1 : Int) (x2 : Int) (x3 : Int) (G : St) : Option (Int × St) :=
  bd (Rd_sign 59 G) fun _ G16 =>
  ckI (256 * x3) <| ckI (2 * (G16 150 12)) <| ckI ((256 * x3) + (2 * (G16 150 12))) <| ckI (((256 * x3) + (2 * (G16 150 12))) + (G16 150 11)) <| bd (Cd_add 0 x1 x2 (((256 * x3) + (2 * (G16 150 12))) + (G16 150 11)) G16) fun z17 G18 =>
  some (0, G18)
noncomputable def Rd_input (P W : Int) (G : St) : Option (Int × St) :=
  ckI ((G 150 2) + 5) <| tk (up G 150 2 ((G 150 2) + 5)) fun G1 =>
  bd (Rd_name G1) fun z2 G3 =>
  bd (Rd_word 71 G3) fun _ G5 =>
  ckI (P - 1) <| bd (Rd_number 0 (P - 1) G5) fun z6 G7 =>
  bd (Rd_sign 58 G7) fun _ G9 =>
  bd (Rd_type G9) fun _ G11 =>
  bd (Ft_is G11) fun z12 G13 =>
  if z12 = 0 then (ckI ((G13 150 4) + (if 1 < (G13 150 12) then (G13 150 12) else 1)) <| tk (up G13 150 4 ((G13 150 4) + (if 1 < (G13 150 12) then (G13 150 12) else 1))) fun G14 =>
  if 256 < (G14 150 4) then (bd (Ft_set 2 (G3 150 10) G14) fun _ G20 =>
  Rd_input_b96 P W z2 (G3 150 10) z6 G20)
  else (Rd_input_b96 P W z2 (G3 150 10) z6 G14))
  else (some (0, G13))
noncomputable def Rd_output (G : St) : Option (Int × St) :=
  bd (Cd_add 4 0 (G 150 2) 0 G) fun z1 G2 =>
  ckI ((G2 150 2) + 6) <| tk (up G2 150 2 ((G2 150 2) + 6)) fun G3 =>
  bd (Rd_exprO G3) fun _ G5 =>
  bd (Rd_sign 59 G5) fun _ G7 =>
  bd (Cd_add 5 0 (G7 150 2) 0 G7) fun z8 G9 =>
  some (0, G9)
noncomputable def Rd_assignment_b176 (s0 : Int) (s1 : Int) (s2 : Int) (s3 : Int) (G : St) : Option (Int × St) :=
  bd (Cd_add s3 s2 s1 s0 G) fun z15 G16 =>
  some (0, G16)
noncomputable def Rd_assignment_b141 (x2 : Int) (x3 : Int) (x4 : Int) (G : St) : Option (Int × St) :=
  bd (Rd_sign 61 G) fun _ G10 =>
  bd (Rd_exprO G10) fun _ G12 =>
  bd (Rd_sign 59 G12) fun _ G14 =>
  Rd_assignment_b176 (if x4 = 0 then 0 else 1) x3 x2 12 G14
noncomputable def Rd_assignment_b51 (x2 : Int) (x3 : Int) (s0 : Int) (G : St) : Option (Int × St) :=
  if s0 = 0 then (bd (Cd_add 9 x2 x3 0 G) fun z7 G8 =>
  Rd_assignment_b141 x2 x3 s0 G8)
  else (bd (Cd_add 10 x2 x3 0 G) fun z17 G18 =>
  bd (Rd_enter (G18 150 2) G18) fun _ G20 =>
  ckI ((G20 150 2) + 1) <| tk (up G20 150 2 ((G20 150 2) + 1)) fun G21 =>
  bd (Rd_exprO G21) fun _ G23 =>
  bd (Rd_sign 93 G23) fun _ G25 =>
  ckI ((G25 150 3) - 1) <| tk (up G25 150 3 ((G25 150 3) - 1)) fun G26 =>
  bd (Cd_add 11 x2 x3 0 G26) fun z27 G28 =>
  Rd_assignment_b141 x2 x3 s0 G28)
noncomputable def Rd_assignment (G : St) : Option (Int × St) :=
  bd (Cd_add 6 0 (G 150 2) 0 G) fun z1 G2 =>
  bd (Rd_name G2) fun z3 G4 =>
  bd (Ft_is G4) fun z5 G6 =>
  if z5 = 0 then (bd (Rd_isSign 91 G6) fun z29 G30 =>
  Rd_assignment_b51 z3 (G4 150 10) (if z29 = 0 then 0 else 1) G30)
  else (Rd_assignment_b51 z3 (G4 150 10) 0 G6)
noncomputable def Rd_variable_b148 (x3 : Int) (x4 : Int) (s0 : Int) (s1 : Int) (s2 : Int) (G : St) : Option (Int × St) :=
  ckI (2 * x4) <| ckI ((2 * x4) + x3) <| bd (Cd_add s2 s1 s0 ((2 * x4) + x3) G) fun z17 G18 =>
  some (0, G18)
noncomputable def Rd_variable_b124 (x1 : Int) (x3 : Int) (x4 : Int) (x6 : Int) (G : St) : Option (Int × St) :=
  bd (Rd_sign 59 G) fun _ G16 =>
  Rd_variable_b148 x3 x4 (if x6 = 0 then 0 else 1) x1 8 G16
noncomputable def Rd_variable_b86 (x1 : Int) (x2 : Int) (x3 : Int) (x4 : Int) (G : St) : Option (Int × St) :=
  bd (Cd_add 7 x1 x2 0 G) fun z11 G12 =>
  bd (Rd_isSign 61 G12) fun z13 G14 =>
  if z13 = 0 then (Rd_variable_b124 x1 x3 x4 z13 G14)
  else (bd (Rd_sign 61 G14) fun _ G20 =>
  bd (Rd_exprO G20) fun _ G22 =>
  Rd_variable_b124 x1 x3 x4 z13 G22)
noncomputable def Rd_variable (G : St) : Option (Int × St) :=
  ckI ((G 150 2) + 3) <| tk (up G 150 2 ((G 150 2) + 3)) fun G1 =>
  bd (Rd_name G1) fun z2 G3 =>
  bd (Rd_sign 58 G3) fun _ G5 =>
  bd (Rd_type G5) fun _ G7 =>
  bd (Ft_is G7) fun z8 G9 =>
  if z8 = 0 then (ckI ((G9 150 5) + (if 1 < (G9 150 12) then (G9 150 12) else 1)) <| tk (up G9 150 5 ((G9 150 5) + (if 1 < (G9 150 12) then (G9 150 12) else 1))) fun G10 =>
  if 256 < (G10 150 5) then (bd (Ft_set 2 (G3 150 10) G10) fun _ G24 =>
  Rd_variable_b86 z2 (G3 150 10) (G9 150 11) (G9 150 12) G24)
  else (Rd_variable_b86 z2 (G3 150 10) (G9 150 11) (G9 150 12) G10))
  else (some (0, G9))
noncomputable def Rd_statement (Rf : Nat → List Int → St → Option (Int × St)) (G : St) : Option (Int × St) :=
  bd (Rd_isWord 72 G) fun z1 G2 =>
  if z1 = 0 then (bd (Rd_isWord 76 G2) fun z3 G4 =>
  if z3 = 0 then (bd (Rd_isWord 74 G4) fun z5 G6 =>
  if z5 = 0 then (bd (Rd_assignment G6) fun _ G8 =>
  some (0, G8))
  else (bd (Rf 3 [] G6) fun _ G10 =>
  some (0, G10)))
  else (bd (Rf 2 [] G4) fun _ G12 =>
  some (0, G12)))
  else (bd (Cd_add 6 0 (G 150 2) 0 G2) fun z13 G14 =>
  bd (Rd_variable G14) fun _ G16 =>
  some (0, G16))
noncomputable def Rd_block_b91 (Rf : Nat → List Int → St → Option (Int × St)) (G : St) : Option (Int × St) :=
  ckI ((G 150 2) + 1) <| tk (up G 150 2 ((G 150 2) + 1)) fun G14 =>
  ckI ((G14 150 3) - 1) <| tk (up G14 150 3 ((G14 150 3) - 1)) fun G15 =>
  bd (Cd_add 21 0 (G15 150 2) 0 G15) fun z16 G17 =>
  some (0, G17)
noncomputable def Rd_block_s65 (Rf : Nat → List Int → St → Option (Int × St)) (G : St) : Option ((St) ⊕ (Int × St)) :=
  bd (Ft_is G) fun z12 G13 =>
  if z12 = 0 then (bd (Rd_isSign 125 G13) fun z18 G19 =>
  if z18 = 0 then (bd (Rf 0 [] G19) fun _ G21 =>
  some (Sum.inl (G21)))
  else (ex (Rd_block_b91 Rf G19)))
  else (ex (Rd_block_b91 Rf G13))
noncomputable def Rd_block_l65 (Rf : Nat → List Int → St → Option (Int × St)) (G : St) : Option (Int × St) :=
  wh (fun s => Rd_block_s65 Rf s) (G)
theorem Rd_block_l65_eq (Rf : Nat → List Int → St → Option (Int × St)) (G : St) : Rd_block_l65 Rf G = (Rd_block_s65 Rf G).bind (lk (fun s => Rd_block_l65 Rf s) some) := by
  exact wh_eq _ _
noncomputable def Rd_block (Rf : Nat → List Int → St → Option (Int × St)) (G : St) : Option (Int × St) :=
  bd (Rd_skip G) fun _ G2 =>
  bd (Ft_is G2) fun z3 G4 =>
  if z3 = 0 then (bd (Rd_look 0 G4) fun z5 G6 =>
  if z5 = 123 then (bd (Rd_enter (G6 150 2) G6) fun _ G8 =>
  ckI ((G8 150 2) + 1) <| tk (up G8 150 2 ((G8 150 2) + 1)) fun G9 =>
  bd (Cd_add 20 0 (G9 150 2) 0 G9) fun z10 G11 =>
  Rd_block_l65 Rf G11)
  else (bd (Rd_bad G6) fun _ G23 =>
  some (0, G23)))
  else (some (0, G4))
noncomputable def Rd_condition_b164 (Rf : Nat → List Int → St → Option (Int × St)) (x1 : Int) (G : St) : Option (Int × St) :=
  bd (Cd_add 15 0 x1 0 G) fun z17 G18 =>
  some (0, G18)
noncomputable def Rd_condition_b79 (Rf : Nat → List Int → St → Option (Int × St)) (x1 : Int) (x3 : Int) (s0 : Int) (G : St) : Option (Int × St) :=
  bd (Cd_add 14 0 x1 0 G) fun z14 G15 =>
  ckB x3 12000 <| tk (up G15 114 x3 z14) fun G16 =>
  if s0 = 0 then (Rd_condition_b164 Rf x1 G16)
  else (ckI ((G16 150 2) + 4) <| tk (up G16 150 2 ((G16 150 2) + 4)) fun G19 =>
  bd (Rd_skip G19) fun _ G21 =>
  bd (Rd_isWord 76 G21) fun z22 G23 =>
  if z22 = 0 then (bd (Rf 1 [] G23) fun _ G25 =>
  Rd_condition_b164 Rf x1 G25)
  else (bd (Rd_enter (G23 150 2) G23) fun _ G27 =>
  bd (Rf 2 [] G27) fun _ G29 =>
  ckI ((G29 150 3) - 1) <| tk (up G29 150 3 ((G29 150 3) - 1)) fun G30 =>
  Rd_condition_b164 Rf x1 G30))
noncomputable def Rd_condition (Rf : Nat → List Int → St → Option (Int × St)) (G : St) : Option (Int × St) :=
  bd (Cd_add 6 0 (G 150 2) 0 G) fun z1 G2 =>
  ckI ((G2 150 2) + 2) <| tk (up G2 150 2 ((G2 150 2) + 2)) fun G3 =>
  bd (Rd_aroundO G3) fun _ G5 =>
  bd (Cd_add 13 0 (G 150 2) 0 G5) fun z6 G7 =>
  bd (Rf 1 [] G7) fun _ G9 =>
  bd (Rd_skip G9) fun _ G11 =>
  bd (Ft_is G11) fun z12 G13 =>
  if z12 = 0 then (bd (Rd_isWord 77 G13) fun z31 G32 =>
  Rd_condition_b79 Rf (G 150 2) z6 (if z31 = 0 then 0 else 1) G32)
  else (Rd_condition_b79 Rf (G 150 2) z6 0 G13)
noncomputable def Rd_loop (Rf : Nat → List Int → St → Option (Int × St)) (G : St) : Option (Int × St) :=
  bd (Cd_add 6 0 (G 150 2) 0 G) fun z1 G2 =>
  ckI ((G2 150 2) + 3) <| tk (up G2 150 2 ((G2 150 2) + 3)) fun G3 =>
  bd (Rd_name G3) fun z4 G5 =>
  bd (Cd_add 16 z4 (G5 150 10) 0 G5) fun z6 G7 =>
  bd (Rd_sign 61 G7) fun _ G9 =>
  bd (Rd_exprO G9) fun _ G11 =>
  bd (Cd_add 17 0 (G 150 2) 0 G11) fun z12 G13 =>
  bd (Rd_word 75 G13) fun _ G15 =>
  bd (Rd_exprO G15) fun _ G17 =>
  bd (Cd_add 17 0 (G 150 2) 0 G17) fun z18 G19 =>
  bd (Cd_add 18 z4 (G 150 2) 0 G19) fun z20 G21 =>
  bd (Rf 1 [] G21) fun _ G23 =>
  bd (Cd_add 19 z4 (G 150 2) z20 G23) fun z24 G25 =>
  ckB z20 12000 <| tk (up G25 114 z20 z24) fun G26 =>
  some (0, G26)
noncomputable def RS : Nat → Nat → List Int → St → Option (Int × St)
  | 0, _, _, _ => none
  | d + 1, 0, a, G => Rd_statement (RS d)  G
  | d + 1, 1, a, G => Rd_block (RS d)  G
  | d + 1, 2, a, G => Rd_condition (RS d)  G
  | d + 1, 3, a, G => Rd_loop (RS d)  G
  | _ + 1, _, _, _ => none
noncomputable def Rd_statementO  (G : St) : Option (Int × St) := RS DX 0 [] G
noncomputable def Rd_blockO  (G : St) : Option (Int × St) := RS DX 1 [] G
noncomputable def Rd_conditionO  (G : St) : Option (Int × St) := RS DX 2 [] G
noncomputable def Rd_loopO  (G : St) : Option (Int × St) := RS DX 3 [] G
noncomputable def Rd_item (P W : Int) (G : St) : Option (Int × St) :=
  bd (Rd_isWord 70 G) fun z1 G2 =>
  if z1 = 0 then (bd (Rd_isWord 73 G2) fun z3 G4 =>
  if z3 = 0 then (bd (Rd_isWord 78 G4) fun z5 G6 =>
  if z5 = 0 then (bd (Rd_statementO G6) fun _ G8 =>
  some (0, G8))
  else (bd (Rd_output G6) fun _ G10 =>
  some (0, G10)))
  else (bd (Rd_def G4) fun _ G12 =>
  some (0, G12)))
  else (bd (Rd_input P W G2) fun _ G14 =>
  some (0, G14))
noncomputable def Rd_read_b72 (P W : Int) (G : St) : Option (Int × St) :=
  bd (Cd_add 60 0 (G 150 1) 0 G) fun z9 G10 =>
  some (0, G10)
noncomputable def Rd_read_s40 (P W : Int) (G : St) : Option ((St) ⊕ (Int × St)) :=
  if (G 150 2) < (G 150 1) then (bd (Ft_is G) fun z11 G12 =>
  if z11 = 0 then (bd (Rd_item P W G12) fun _ G14 =>
  bd (Rd_skip G14) fun _ G16 =>
  some (Sum.inl (G16)))
  else (ex (Rd_read_b72 P W G12)))
  else (ex (Rd_read_b72 P W G))
noncomputable def Rd_read_l40 (P W : Int) (G : St) : Option (Int × St) :=
  wh (fun s => Rd_read_s40 P W s) (G)
theorem Rd_read_l40_eq (P W : Int) (G : St) : Rd_read_l40 P W G = (Rd_read_s40 P W G).bind (lk (fun s => Rd_read_l40 P W s) some) := by
  exact wh_eq _ _
noncomputable def Rd_read (P W : Int) (x2 : Int) (G : St) : Option (Int × St) :=
  ckA 0 x2 4000 <| ckA 0 x2 4000 <| tk (acp G 102 0 151 0 x2) fun G1 =>
  tk (up G1 150 1 x2) fun G2 =>
  tk (up G2 150 2 0) fun G3 =>
  tk (up G3 150 3 0) fun G4 =>
  tk (up G4 150 4 0) fun G5 =>
  tk (up G5 150 5 0) fun G6 =>
  bd (Rd_skip G6) fun _ G8 =>
  Rd_read_l40 P W G8
noncomputable def Ho_compile_s131 (P W : Int) (x2 : Int) (G : St) : Option ((Int × St) ⊕ (Int × St)) :=
  if x2 < 256 then (ckB x2 256 <| tk (up G 104 x2 0) fun G23 =>
  ckI (x2 + 1) <| some (Sum.inl (x2 + 1, G23)))
  else (ex (ckB 1 2 <| tk (up G 100 18 1) fun G22 =>
  some (0, G22)))
noncomputable def Ho_compile_l131 (P W : Int) (x2 : Int) (G : St) : Option (Int × St) :=
  wh (fun s => Ho_compile_s131 P W s.1 s.2) (x2, G)
theorem Ho_compile_l131_eq (P W : Int) (x2 : Int) (G : St) : Ho_compile_l131 P W x2 G = (Ho_compile_s131 P W x2 G).bind (lk (fun s => Ho_compile_l131 P W s.1 s.2) some) := by
  exact wh_eq _ _
noncomputable def Ho_compile_b104 (P W : Int) (G : St) : Option (Int × St) :=
  bd (Ft_is G) fun z18 G19 =>
  if z18 = 0 then (bd (Pl_make P W G19) fun _ G21 =>
  Ho_compile_l131 P W 0 G21)
  else (some (G19 130 0, G19))
noncomputable def Ho_compile_b80 (P W : Int) (G : St) : Option (Int × St) :=
  bd (Ft_is G) fun z16 G17 =>
  if z16 = 0 then (bd (Bd_build P W (G17 160 11) G17) fun _ G25 =>
  Ho_compile_b104 P W G25)
  else (Ho_compile_b104 P W G17)
noncomputable def Ho_compile (P W : Int) (G : St) : Option (Int × St) :=
  tk (up G 100 4 0) fun G1 =>
  ckB 0 2 <| tk (up G1 100 18 0) fun G2 =>
  ckB 0 2 <| tk (up G2 100 19 0) fun G3 =>
  tk (up G3 100 23 0) fun G4 =>
  tk (up G4 100 24 0) fun G5 =>
  bd (Nm_clear G5) fun _ G7 =>
  bd (Cd_clear G7) fun _ G9 =>
  bd (Ft_clear G9) fun _ G11 =>
  bd (Rd_read P W (G 100 4) G11) fun _ G13 =>
  bd (Ft_is G13) fun z14 G15 =>
  if z14 = 0 then (bd (Ck_check P W G15) fun _ G27 =>
  Ho_compile_b80 P W G27)
  else (Ho_compile_b80 P W G15)
noncomputable def Ho_circuitLook_b52 (P W : Int) (G : St) : Option (Int × St) :=
  some (G 140 4, G)
noncomputable def Ho_circuitLook_b60 (P W : Int) (G : St) : Option (Int × St) :=
  some (G 140 5, G)
noncomputable def Ho_circuitLook_b68 (P W : Int) (G : St) : Option (Int × St) :=
  some (G 140 7, G)
noncomputable def Ho_circuitLook_b76 (P W : Int) (G : St) : Option (Int × St) :=
  some (G 140 6, G)
noncomputable def Ho_circuitLook_b84 (P W : Int) (G : St) : Option (Int × St) :=
  some (G 180 13, G)
noncomputable def Ho_circuitLook_b92 (P W : Int) (G : St) : Option (Int × St) :=
  some (G 180 32, G)
noncomputable def Ho_circuitLook_b100 (P W : Int) (G : St) : Option (Int × St) :=
  ckI (P - 1) <| ckI ((P - 1) * (G 140 6)) <| ckI (3 * P) <| ckI ((3 * P) - 1) <| ckI (((3 * P) - 1) * (G 140 5)) <| ckI (((P - 1) * (G 140 6)) + (((3 * P) - 1) * (G 140 5))) <| some (((P - 1) * (G 140 6)) + (((3 * P) - 1) * (G 140 5)), G)
noncomputable def Ho_circuitLook_b132 (P W : Int) (G : St) : Option (Int × St) :=
  some (G 180 8, G)
noncomputable def Ho_circuitLook (P W : Int) (x1 : Int) (G : St) : Option (Int × St) :=
  if (G 100 18) = 0 then (some ((-1), G))
  else (swt x1 1 [Ho_circuitLook_b52 P W G, Ho_circuitLook_b60 P W G, Ho_circuitLook_b68 P W G, Ho_circuitLook_b76 P W G, Ho_circuitLook_b84 P W G, Ho_circuitLook_b92 P W G, Ho_circuitLook_b100 P W G] (Ho_circuitLook_b132 P W G))
noncomputable def Pa_isDone (p : Int) (G : St) : Option (Int × St) :=
  ckI ((G 140 7) + 2) <| ckB (if (G (1000 + 32 * p) 7) = ((G 140 7) + 2) then 1 else 0) 2 (some ((if (G (1000 + 32 * p) 7) = ((G 140 7) + 2) then 1 else 0), G))
noncomputable def Ho_done_b37 (P W : Int) (x2 : Int) (s0 : Int) (s1 : Int) (G : St) : Option ((Int × Int × St) ⊕ (Int × St)) :=
  ckI (s1 + s0) <| ckI (x2 + 1) <| some (Sum.inl (s1 + s0, x2 + 1, G))
noncomputable def Ho_done_s4 (P W : Int) (x1 : Int) (x2 : Int) (G : St) : Option ((Int × Int × St) ⊕ (Int × St)) :=
  if x2 < P then (if (G 100 19) = 0 then (Ho_done_b37 P W x2 0 x1 G)
  else (ckQ x2 P fun p1 =>
  bd (Pa_isDone p1 G) fun z2 G3 =>
  Ho_done_b37 P W x2 (if z2 = 0 then 0 else 1) x1 G3))
  else (ex (some (x1, G)))
noncomputable def Ho_done_l4 (P W : Int) (x1 : Int) (x2 : Int) (G : St) : Option (Int × St) :=
  wh (fun s => Ho_done_s4 P W s.1 s.2.1 s.2.2) (x1, x2, G)
theorem Ho_done_l4_eq (P W : Int) (x1 : Int) (x2 : Int) (G : St) : Ho_done_l4 P W x1 x2 G = (Ho_done_s4 P W x1 x2 G).bind (lk (fun s => Ho_done_l4 P W s.1 s.2.1 s.2.2) some) := by
  exact wh_eq _ _
noncomputable def Ho_done (P W : Int) (G : St) : Option (Int × St) :=
  Ho_done_l4 P W 0 0 G
noncomputable def Ho_look_b76 (P W : Int) (G : St) : Option (Int × St) :=
  some (G 130 1, G)
noncomputable def Ho_look_b84 (P W : Int) (x1 : Int) (G : St) : Option (Int × St) :=
  bd (Ho_circuitLook P W x1 G) fun z1 G2 =>
  some (z1, G2)
noncomputable def Ho_look_b90 (P W : Int) (G : St) : Option (Int × St) :=
  some (G 100 23, G)
noncomputable def Ho_look_b95 (P W : Int) (G : St) : Option (Int × St) :=
  some (G 100 24, G)
noncomputable def Ho_look_b100 (P W : Int) (G : St) : Option (Int × St) :=
  bd (Ho_done P W G) fun z3 G4 =>
  some (z3, G4)
noncomputable def Ho_look_b105 (P W : Int) (G : St) : Option (Int × St) :=
  some ((if (G 100 18) = 0 then 0 else (if (G 100 19) = 0 then 1 else 2)), G)
noncomputable def Ho_look_b129 (P W : Int) (G : St) : Option (Int × St) :=
  some (G 240 2, G)
noncomputable def Ho_look_b137 (P W : Int) (G : St) : Option (Int × St) :=
  some (G 240 3, G)
noncomputable def Ho_look (P W : Int) (x1 : Int) (G : St) : Option (Int × St) :=
  swt x1 0 [Ho_look_b76 P W G, Ho_look_b84 P W x1 G, Ho_look_b84 P W x1 G, Ho_look_b84 P W x1 G, Ho_look_b84 P W x1 G, Ho_look_b84 P W x1 G, Ho_look_b84 P W x1 G, Ho_look_b84 P W x1 G, Ho_look_b84 P W x1 G, Ho_look_b90 P W G, Ho_look_b95 P W G, Ho_look_b100 P W G, Ho_look_b105 P W G, Ho_look_b129 P W G, Ho_look_b137 P W G] (some ((-1), G))
noncomputable def Ho_gate_b56 (x1 : Int) (G : St) : Option (Int × St) :=
  ckB x1 40000 <| some ((if (G 144 x1) = 0 then 0 else 1), G)
noncomputable def Ho_gate_b74 (x1 : Int) (G : St) : Option (Int × St) :=
  ckB x1 40000 <| some (G 143 x1, G)
noncomputable def Ho_gate_b84 (x1 : Int) (G : St) : Option (Int × St) :=
  ckB x1 40000 <| some (G 141 x1, G)
noncomputable def Ho_gate_b94 (x1 : Int) (G : St) : Option (Int × St) :=
  ckB x1 40000 <| some (G 142 x1, G)
noncomputable def Ho_gate (x1 : Int) (x2 : Int) (G : St) : Option (Int × St) :=
  if (G 100 18) = 0 then (some ((-1), G))
  else (if x1 < 0 then (some ((-1), G))
  else (if x1 < (G 140 4) then (swt x2 0 [Ho_gate_b56 x1 G, Ho_gate_b74 x1 G, Ho_gate_b84 x1 G, Ho_gate_b94 x1 G] (some ((-1), G)))
  else (some ((-1), G))))
noncomputable def Ho_isOutput (x1 : Int) (G : St) : Option (Int × St) :=
  ckB (if (G 100 18) = 0 then 0 else (if x1 < 0 then 0 else (if x1 < (G 180 32) then 1 else 0))) 2 (some ((if (G 100 18) = 0 then 0 else (if x1 < 0 then 0 else (if x1 < (G 180 32) then 1 else 0))), G))
noncomputable def Ho_literal (P W : Int) (x1 : Int) (x2 : Int) (G : St) : Option (Int × St) :=
  bd (Ho_isOutput x1 G) fun z1 G2 =>
  if z1 = 0 then (some ((-3), G2))
  else (if x2 < 0 then (some ((-3), G2))
  else (ckB x1 4000 <| if x2 < (G2 204 x1) then (ckI (W * x1) <| ckI ((W * x1) + x2) <| ckB ((W * x1) + x2) (W * 500) <| some (G2 203 ((W * x1) + x2), G2))
  else (some ((-3), G2))))
noncomputable def Ho_isInput (x1 : Int) (G : St) : Option (Int × St) :=
  ckB (if (G 100 18) = 0 then 0 else (if x1 < 0 then 0 else (if x1 < (G 180 13) then 1 else 0))) 2 (some ((if (G 100 18) = 0 then 0 else (if x1 < 0 then 0 else (if x1 < (G 180 13) then 1 else 0))), G))
noncomputable def Ho_input_b40 (x1 : Int) (G : St) : Option (Int × St) :=
  ckB x1 256 <| some (G 184 x1, G)
noncomputable def Ho_input_b51 (x1 : Int) (G : St) : Option (Int × St) :=
  ckB x1 256 <| some (G 183 x1, G)
noncomputable def Ho_input_b62 (x1 : Int) (G : St) : Option (Int × St) :=
  ckB x1 256 <| ckB x1 256 <| ckL ((j_lsl 1 (G 183 x1)) - 1) <| some (j_lan (G 104 x1) ((j_lsl 1 (G 183 x1)) - 1), G)
noncomputable def Ho_input_b84 (G : St) : Option (Int × St) :=
  some ((-1), G)
noncomputable def Ho_input (x1 : Int) (x2 : Int) (G : St) : Option (Int × St) :=
  bd (Ho_isInput x1 G) fun z1 G2 =>
  if z1 = 0 then (some ((-1), G2))
  else (swt x2 0 [Ho_input_b40 x1 G2, Ho_input_b51 x1 G2, Ho_input_b62 x1 G2] (Ho_input_b84 G2))
noncomputable def Ho_give (x1 : Int) (x2 : Int) (G : St) : Option (Int × St) :=
  bd (Ho_isInput x1 G) fun z1 G2 =>
  if z1 = 0 then (ckB 0 2 (some (0, G2)))
  else (ckB x1 256 <| tk (up G2 104 x1 x2) fun G3 =>
  ckB 1 2 (some (1, G3)))
noncomputable def Ho_seed (x1 : Int) (G : St) : Option (Int × St) :=
  tk (up G 240 3 x1) fun G1 =>
  some (0, G1)
noncomputable def Bt_set (o : Int) (x1 : Int) (x2 : Int) (G : St) : Option (Int × St) :=
  ckD x1 64 <| ckD x1 64 <| ckB (x1 / 64) (blC o) <| ckD x1 64 <| ckD x1 64 <| ckB (x1 / 64) (blC o) <| tk (up G (o + 1) (x1 / 64) (j_lor (j_lan (G (o + 1) (x1 / 64)) (j_lxo (j_lsl 1 (x1 % 64)) (-1))) (j_lsl x2 (x1 % 64)))) fun G1 =>
  some (0, G1)
noncomputable def Dr_add_s17 (x1 : Int) (x3 : Int) (x4 : Int) (G : St) : Option ((Int × St) ⊕ (Int × St)) :=
  if x4 < x3 then (ckI ((G 240 1) + (G 240 2)) <| ckI (((G 240 1) + (G 240 2)) + x4) <| ckD (((G 240 1) + (G 240 2)) + x4) 2000 <| bd (Bt_set 241 ((((G 240 1) + (G 240 2)) + x4) % 2000) (j_an (w32 (j_lus x1 x4)) 1) G) fun _ G3 =>
  ckI (x4 + 1) <| some (Sum.inl (x4 + 1, G3)))
  else (ex (ckI ((G 240 2) + x3) <| tk (up G 240 2 ((G 240 2) + x3)) fun G1 =>
  ckB 1 2 (some (1, G1))))
noncomputable def Dr_add_l17 (x1 : Int) (x3 : Int) (x4 : Int) (G : St) : Option (Int × St) :=
  wh (fun s => Dr_add_s17 x1 x3 s.1 s.2) (x4, G)
theorem Dr_add_l17_eq (x1 : Int) (x3 : Int) (x4 : Int) (G : St) : Dr_add_l17 x1 x3 x4 G = (Dr_add_s17 x1 x3 x4 G).bind (lk (fun s => Dr_add_l17 x1 x3 s.1 s.2) some) := by
  exact wh_eq _ _
noncomputable def Dr_add (x1 : Int) (x3 : Int) (G : St) : Option (Int × St) :=
  ckI ((G 240 2) + x3) <| if 2000 < ((G 240 2) + x3) then (ckB 0 2 (some (0, G)))
  else (Dr_add_l17 x1 x3 0 G)
noncomputable def Ho_draws (x1 : Int) (x3 : Int) (G : St) : Option (Int × St) :=
  if x3 < 0 then (some ((-1), G))
  else (if 64 < x3 then (some ((-1), G))
  else (bd (Dr_add x1 x3 G) fun z1 G2 =>
  some ((if z1 = 0 then (-1) else (G2 240 2)), G2)))
noncomputable def Bt_get (o : Int) (x1 : Int) (G : St) : Option (Int × St) :=
  ckD x1 64 <| ckB (x1 / 64) (blC o) <| ckD x1 64 <| some (j_an (w32 (j_lus (G (o + 1) (x1 / 64)) (x1 % 64))) 1, G)
noncomputable def Dr_draw (G : St) : Option (Int × St) :=
  if 0 < (G 240 2) then (bd (Bt_get 241 (G 240 1) G) fun z2 G3 =>
  ckD (w32 ((G3 240 1) + 1)) 2000 <| tk (up G3 240 1 ((w32 ((G3 240 1) + 1)) % 2000)) fun G4 =>
  tk (up G4 240 2 (w32 ((G4 240 2) - 1))) fun G5 =>
  some (z2, G5))
  else (tk (up G 240 3 (w32 ((w32 ((G 240 3) * 1103515245)) + 12345))) fun G1 =>
  some (j_an (j_us (G1 240 3) 16) 1, G1))
noncomputable def Ho_cutInputs_b127 (P W : Int) (x1 : Int) (x2 : Int) (x3 : Int) (x4 : Int) (x5 : Int) (x6 : Int) (G : St) : Option ((Int × Int × St) ⊕ ((Int × St) ⊕ ((Int × St) ⊕ (Int × St)))) :=
  ckI (x6 + 1) <| some (Sum.inl (x5, x6 + 1, G))
noncomputable def Ho_cutInputs_s76 (P W : Int) (x1 : Int) (x2 : Int) (x3 : Int) (x4 : Int) (x5 : Int) (x6 : Int) (G : St) : Option ((Int × Int × St) ⊕ ((Int × St) ⊕ ((Int × St) ⊕ (Int × St)))) :=
  if x6 < P then (if x6 = x4 then (Ho_cutInputs_b127 P W x1 x2 x3 x4 x5 x6 G)
  else (bd (Dr_draw G) fun z6 G7 =>
  ckQ x6 P fun p8 =>
  bd (Bt_set (1000 + 32 * p8 + 3) x3 z6 G7) fun _ G10 =>
  Ho_cutInputs_b127 P W x1 x2 x3 x4 (j_xo x5 z6) x6 G10))
  else (ex (ckQ x4 P fun p3 =>
  bd (Bt_set (1000 + 32 * p3 + 3) x3 x5 G) fun _ G5 =>
  ckI (x2 + 1) <| some (Sum.inl (x2 + 1, G5))))
noncomputable def Ho_cutInputs_l76 (P W : Int) (x1 : Int) (x2 : Int) (x3 : Int) (x4 : Int) (x5 : Int) (x6 : Int) (G : St) : Option ((Int × St) ⊕ ((Int × St) ⊕ (Int × St))) :=
  wh (fun s => Ho_cutInputs_s76 P W x1 x2 x3 x4 s.1 s.2.1 s.2.2) (x5, x6, G)
theorem Ho_cutInputs_l76_eq (P W : Int) (x1 : Int) (x2 : Int) (x3 : Int) (x4 : Int) (x5 : Int) (x6 : Int) (G : St) : Ho_cutInputs_l76 P W x1 x2 x3 x4 x5 x6 G = (Ho_cutInputs_s76 P W x1 x2 x3 x4 x5 x6 G).bind (lk (fun s => Ho_cutInputs_l76 P W x1 x2 x3 x4 s.1 s.2.1 s.2.2) some) := by
  exact wh_eq _ _
noncomputable def Ho_cutInputs_s15 (P W : Int) (x1 : Int) (x2 : Int) (G : St) : Option ((Int × St) ⊕ ((Int × St) ⊕ (Int × St))) :=
  ckB x1 256 <| if x2 < (G 183 x1) then (ckB x1 256 <| ckI ((G 182 x1) + x2) <| ckB x1 256 <| ckB x1 256 <| bd (Bt_set 105 ((G 182 x1) + x2) (j_an (j_sr (G 104 x1) x2) 1) G) fun _ G2 =>
  Ho_cutInputs_l76 P W x1 x2 ((G 182 x1) + x2) (G 184 x1) (j_an (j_sr (G 104 x1) x2) 1) 0 G2)
  else (ex (ckI (x1 + 1) <| some (Sum.inl (x1 + 1, G))))
noncomputable def Ho_cutInputs_l15 (P W : Int) (x1 : Int) (x2 : Int) (G : St) : Option ((Int × St) ⊕ (Int × St)) :=
  wh (fun s => Ho_cutInputs_s15 P W x1 s.1 s.2) (x2, G)
theorem Ho_cutInputs_l15_eq (P W : Int) (x1 : Int) (x2 : Int) (G : St) : Ho_cutInputs_l15 P W x1 x2 G = (Ho_cutInputs_s15 P W x1 x2 G).bind (lk (fun s => Ho_cutInputs_l15 P W x1 s.1 s.2) some) := by
  exact wh_eq _ _
noncomputable def Ho_cutInputs_s2 (P W : Int) (x1 : Int) (G : St) : Option ((Int × St) ⊕ (Int × St)) :=
  if x1 < (G 180 13) then (Ho_cutInputs_l15 P W x1 0 G)
  else (ex (some (0, G)))
noncomputable def Ho_cutInputs_l2 (P W : Int) (x1 : Int) (G : St) : Option (Int × St) :=
  wh (fun s => Ho_cutInputs_s2 P W s.1 s.2) (x1, G)
theorem Ho_cutInputs_l2_eq (P W : Int) (x1 : Int) (G : St) : Ho_cutInputs_l2 P W x1 G = (Ho_cutInputs_s2 P W x1 G).bind (lk (fun s => Ho_cutInputs_l2 P W s.1 s.2) some) := by
  exact wh_eq _ _
noncomputable def Ho_cutInputs (P W : Int) (G : St) : Option (Int × St) :=
  Ho_cutInputs_l2 P W 0 G
noncomputable def Ho_cutTriple_s108 (P W : Int) (x1 : Int) (x4 : Int) (x5 : Int) (G : St) : Option ((Int × Int × St) ⊕ (Int × St)) :=
  if x5 < P then (bd (Dr_draw G) fun z4 G5 =>
  ckQ x5 P fun p6 =>
  bd (Bt_set (1000 + 32 * p6 + 9) x1 z4 G5) fun _ G8 =>
  ckI (x5 + 1) <| some (Sum.inl (j_xo x4 z4, x5 + 1, G8)))
  else (ex (ckQ 0 P fun p1 =>
  bd (Bt_set (1000 + 32 * p1 + 9) x1 x4 G) fun _ G3 =>
  some (0, G3)))
noncomputable def Ho_cutTriple_l108 (P W : Int) (x1 : Int) (x4 : Int) (x5 : Int) (G : St) : Option (Int × St) :=
  wh (fun s => Ho_cutTriple_s108 P W x1 s.1 s.2.1 s.2.2) (x4, x5, G)
theorem Ho_cutTriple_l108_eq (P W : Int) (x1 : Int) (x4 : Int) (x5 : Int) (G : St) : Ho_cutTriple_l108 P W x1 x4 x5 G = (Ho_cutTriple_s108 P W x1 x4 x5 G).bind (lk (fun s => Ho_cutTriple_l108 P W x1 s.1 s.2.1 s.2.2) some) := by
  exact wh_eq _ _
noncomputable def Ho_cutTriple_s55 (P W : Int) (x1 : Int) (x2 : Int) (x3 : Int) (x4 : Int) (G : St) : Option ((Int × Int × St) ⊕ (Int × St)) :=
  if x4 < P then (bd (Dr_draw G) fun z9 G10 =>
  ckQ x4 P fun p11 =>
  bd (Bt_set (1000 + 32 * p11 + 7) x1 z9 G10) fun _ G13 =>
  ckI (x4 + 1) <| some (Sum.inl (j_xo x3 z9, x4 + 1, G13)))
  else (ex (Ho_cutTriple_l108 P W x1 (j_an x2 x3) 1 G))
noncomputable def Ho_cutTriple_l55 (P W : Int) (x1 : Int) (x2 : Int) (x3 : Int) (x4 : Int) (G : St) : Option (Int × St) :=
  wh (fun s => Ho_cutTriple_s55 P W x1 x2 s.1 s.2.1 s.2.2) (x3, x4, G)
theorem Ho_cutTriple_l55_eq (P W : Int) (x1 : Int) (x2 : Int) (x3 : Int) (x4 : Int) (G : St) : Ho_cutTriple_l55 P W x1 x2 x3 x4 G = (Ho_cutTriple_s55 P W x1 x2 x3 x4 G).bind (lk (fun s => Ho_cutTriple_l55 P W x1 x2 s.1 s.2.1 s.2.2) some) := by
  exact wh_eq _ _
noncomputable def Ho_cutTriple_s7 (P W : Int) (x1 : Int) (x3 : Int) (x2 : Int) (x4 : Int) (G : St) : Option ((Int × Int × St) ⊕ (Int × St)) :=
  if x4 < P then (bd (Dr_draw G) fun z14 G15 =>
  ckQ x4 P fun p16 =>
  bd (Bt_set (1000 + 32 * p16 + 5) x1 z14 G15) fun _ G18 =>
  ckI (x4 + 1) <| some (Sum.inl (j_xo x2 z14, x4 + 1, G18)))
  else (ex (Ho_cutTriple_l55 P W x1 x2 x3 0 G))
noncomputable def Ho_cutTriple_l7 (P W : Int) (x1 : Int) (x3 : Int) (x2 : Int) (x4 : Int) (G : St) : Option (Int × St) :=
  wh (fun s => Ho_cutTriple_s7 P W x1 x3 s.1 s.2.1 s.2.2) (x2, x4, G)
theorem Ho_cutTriple_l7_eq (P W : Int) (x1 : Int) (x3 : Int) (x2 : Int) (x4 : Int) (G : St) : Ho_cutTriple_l7 P W x1 x3 x2 x4 G = (Ho_cutTriple_s7 P W x1 x3 x2 x4 G).bind (lk (fun s => Ho_cutTriple_l7 P W x1 x3 s.1 s.2.1 s.2.2) some) := by
  exact wh_eq _ _
noncomputable def Ho_cutTriple (P W : Int) (x1 : Int) (G : St) : Option (Int × St) :=
  Ho_cutTriple_l7 P W x1 0 0 0 G
noncomputable def Ho_send_b66 (P W : Int) (x1 : Int) (x2 : Int) (G : St) : Option ((Int × St) ⊕ (Int × St)) :=
  ckI (x2 + 1) <| some (Sum.inl (x2 + 1, G))
noncomputable def Ho_send_s2 (P W : Int) (x1 : Int) (x2 : Int) (G : St) : Option ((Int × St) ⊕ (Int × St)) :=
  if x2 < P then (if x2 = x1 then (Ho_send_b66 P W x1 x2 G)
  else (ckB (G 100 23) (3 * P * P) <| tk (up G 170 (G 100 23) x1) fun G1 =>
  ckB (G1 100 23) (3 * P * P) <| tk (up G1 171 (G1 100 23) x2) fun G2 =>
  ckQ x1 P fun p3 =>
  ckB (G2 100 23) (3 * P * P) <| tk (up G2 172 (G2 100 23) (G2 (1000 + 32 * p3) 7)) fun G4 =>
  ckI ((G4 100 23) + 1) <| tk (up G4 100 23 ((G4 100 23) + 1)) fun G5 =>
  Ho_send_b66 P W x1 x2 G5))
  else (ex (ckI (P - 1) <| some (P - 1, G)))
noncomputable def Ho_send_l2 (P W : Int) (x1 : Int) (x2 : Int) (G : St) : Option (Int × St) :=
  wh (fun s => Ho_send_s2 P W x1 s.1 s.2) (x2, G)
theorem Ho_send_l2_eq (P W : Int) (x1 : Int) (x2 : Int) (G : St) : Ho_send_l2 P W x1 x2 G = (Ho_send_s2 P W x1 x2 G).bind (lk (fun s => Ho_send_l2 P W x1 s.1 s.2) some) := by
  exact wh_eq _ _
noncomputable def Ho_send (P W : Int) (x1 : Int) (G : St) : Option (Int × St) :=
  Ho_send_l2 P W x1 0 G
noncomputable def Pa_begin (p : Int) (G : St) : Option (Int × St) :=
  tk (up G (1000 + 32 * p) 7 0) fun G1 =>
  tk (up G1 (1000 + 32 * p) 8 0) fun G2 =>
  tk (up G2 (1000 + 32 * p) 9 0) fun G3 =>
  tk (up G3 (1000 + 32 * p) 10 0) fun G4 =>
  some (0, G4)
noncomputable def Ho_deal_s91 (P W : Int) (x1 : Int) (G : St) : Option ((Int × St) ⊕ (Int × St)) :=
  if x1 < P then (bd (Ho_send P W x1 G) fun z6 G7 =>
  ckI (x1 + 1) <| some (Sum.inl (x1 + 1, G7)))
  else (ex (ckB 1 2 (some (1, G))))
noncomputable def Ho_deal_l91 (P W : Int) (x1 : Int) (G : St) : Option (Int × St) :=
  wh (fun s => Ho_deal_s91 P W s.1 s.2) (x1, G)
theorem Ho_deal_l91_eq (P W : Int) (x1 : Int) (G : St) : Ho_deal_l91 P W x1 G = (Ho_deal_s91 P W x1 G).bind (lk (fun s => Ho_deal_l91 P W s.1 s.2) some) := by
  exact wh_eq _ _
noncomputable def Ho_deal_s66 (P W : Int) (x1 : Int) (G : St) : Option ((Int × St) ⊕ (Int × St)) :=
  if x1 < P then (ckQ x1 P fun p8 =>
  bd (Pa_begin p8 G) fun _ G10 =>
  ckI (x1 + 1) <| some (Sum.inl (x1 + 1, G10)))
  else (ex (Ho_deal_l91 P W 0 G))
noncomputable def Ho_deal_l66 (P W : Int) (x1 : Int) (G : St) : Option (Int × St) :=
  wh (fun s => Ho_deal_s66 P W s.1 s.2) (x1, G)
theorem Ho_deal_l66_eq (P W : Int) (x1 : Int) (G : St) : Ho_deal_l66 P W x1 G = (Ho_deal_s66 P W x1 G).bind (lk (fun s => Ho_deal_l66 P W s.1 s.2) some) := by
  exact wh_eq _ _
noncomputable def Ho_deal_b43 (P W : Int) (x1 : Int) (G : St) : Option ((Int × St) ⊕ (Int × St)) :=
  ckI (x1 + 1) <| some (Sum.inl (x1 + 1, G))
noncomputable def Ho_deal_s15 (P W : Int) (x1 : Int) (G : St) : Option ((Int × St) ⊕ (Int × St)) :=
  if x1 < (G 140 4) then (ckB x1 40000 <| if (G 144 x1) = 0 then (Ho_deal_b43 P W x1 G)
  else (bd (Ho_cutTriple P W x1 G) fun _ G12 =>
  Ho_deal_b43 P W x1 G12))
  else (ex (ckB 1 2 <| tk (up G 100 19 1) fun G3 =>
  tk (up G3 100 23 0) fun G4 =>
  tk (up G4 100 24 0) fun G5 =>
  Ho_deal_l66 P W 0 G5))
noncomputable def Ho_deal_l15 (P W : Int) (x1 : Int) (G : St) : Option (Int × St) :=
  wh (fun s => Ho_deal_s15 P W s.1 s.2) (x1, G)
theorem Ho_deal_l15_eq (P W : Int) (x1 : Int) (G : St) : Ho_deal_l15 P W x1 G = (Ho_deal_s15 P W x1 G).bind (lk (fun s => Ho_deal_l15 P W s.1 s.2) some) := by
  exact wh_eq _ _
noncomputable def Ho_deal (P W : Int) (G : St) : Option (Int × St) :=
  if (G 100 18) = 0 then (ckB 0 2 (some (0, G)))
  else (bd (Ho_cutInputs P W G) fun _ G2 =>
  Ho_deal_l15 P W 0 G2)
noncomputable def Pa_shareOf_b14 (p : Int) (x1 : Int) (s0 : Int) (G : St) : Option (Int × St) :=
  if x1 < 0 then (some (s0, G))
  else (ckD x1 2 <| bd (Bt_get (1000 + 32 * p + 1) (x1 / 2) G) fun z1 G2 =>
  some (j_xo z1 s0, G2))
noncomputable def Pa_shareOf (p : Int) (x1 : Int) (G : St) : Option (Int × St) :=
  if p = 0 then (Pa_shareOf_b14 p x1 (j_an x1 1) G)
  else (Pa_shareOf_b14 p x1 0 G)
noncomputable def Pl_wireOf (P W : Int) (x1 : Int) (x2 : Int) (G : St) : Option (Int × St) :=
  ckB x1 (P + 1) <| ckI ((G 228 x1) + x2) <| ckB ((G 228 x1) + x2) (W * 256) <| some (G 227 ((G 228 x1) + x2), G)
noncomputable def Pa_bit (P W : Int) (p : Int) (p1 : Int) (x2 : Int) (x3 : Int) (G : St) : Option (Int × St) :=
  if x2 = 0 then (bd (Pl_wireOf P W p x3 G) fun z11 G12 =>
  bd (Bt_get (1000 + 32 * p1 + 3) z11 G12) fun z13 G14 =>
  some (z13, G14))
  else (if (G 140 7) < x2 then (ckB x3 (W * 500) <| bd (Pa_shareOf p (G 229 x3) G) fun z9 G10 =>
  some (z9, G10))
  else (ckB x2 2002 <| ckD x3 2 <| ckI ((G 224 x2) + (x3 / 2)) <| ckB ((G 224 x2) + (x3 / 2)) 40000 <| ckD x3 2 <| if (x3 % 2) = 0 then (ckB (G 222 ((G 224 x2) + (x3 / 2))) 40000 <| bd (Pa_shareOf p (G 141 (G 222 ((G 224 x2) + (x3 / 2)))) G) fun z5 G6 =>
  bd (Bt_get (1000 + 32 * p + 5) (G 222 ((G 224 x2) + (x3 / 2))) G6) fun z7 G8 =>
  some (j_xo z5 z7, G8))
  else (ckB (G 222 ((G 224 x2) + (x3 / 2))) 40000 <| bd (Pa_shareOf p (G 142 (G 222 ((G 224 x2) + (x3 / 2)))) G) fun z1 G2 =>
  bd (Bt_get (1000 + 32 * p + 7) (G 222 ((G 224 x2) + (x3 / 2))) G2) fun z3 G4 =>
  some (j_xo z1 z3, G4))))
noncomputable def Pl_owned (P W : Int) (x1 : Int) (G : St) : Option (Int × St) :=
  ckI (x1 + 1) <| ckB (x1 + 1) (P + 1) <| ckB x1 (P + 1) <| ckI ((G 228 (x1 + 1)) - (G 228 x1)) <| some ((G 228 (x1 + 1)) - (G 228 x1), G)
noncomputable def Pl_length (P W : Int) (x1 : Int) (x2 : Int) (G : St) : Option (Int × St) :=
  if x2 = 0 then (bd (Pl_owned P W x1 G) fun z1 G2 =>
  some (z1, G2))
  else (if (G 140 7) < x2 then (some (G 220 12, G))
  else (ckI (x2 + 1) <| ckB (x2 + 1) 2002 <| ckB x2 2002 <| ckI ((G 224 (x2 + 1)) - (G 224 x2)) <| ckI (2 * ((G 224 (x2 + 1)) - (G 224 x2))) <| some (2 * ((G 224 (x2 + 1)) - (G 224 x2)), G)))
noncomputable def Ho_message_b64 (P W : Int) (x1 : Int) (G : St) : Option (Int × St) :=
  ckB x1 (3 * P * P) <| some (G 170 x1, G)
noncomputable def Ho_message_b71 (P W : Int) (x1 : Int) (G : St) : Option (Int × St) :=
  ckB x1 (3 * P * P) <| some (G 171 x1, G)
noncomputable def Ho_message_b78 (P W : Int) (x1 : Int) (G : St) : Option (Int × St) :=
  ckB x1 (3 * P * P) <| some (G 172 x1, G)
noncomputable def Ho_message_b85 (P W : Int) (x3 : Int) (G : St) : Option (Int × St) :=
  some (x3, G)
noncomputable def Ho_message_b87 (P W : Int) (x1 : Int) (x2 : Int) (x3 : Int) (G : St) : Option (Int × St) :=
  if x2 < 4 then (some ((-1), G))
  else (ckI (x2 - 4) <| if (x2 - 4) < x3 then (ckB x1 (3 * P * P) <| ckQ (G 170 x1) P fun p3 =>
  ckB x1 (3 * P * P) <| ckQ (G 171 x1) P fun p4 =>
  ckB x1 (3 * P * P) <| ckI (x2 - 4) <| bd (Pa_bit P W p3 p4 (G 172 x1) (x2 - 4) G) fun z5 G6 =>
  some (z5, G6))
  else (some ((-1), G)))
noncomputable def Ho_message (P W : Int) (x1 : Int) (x2 : Int) (G : St) : Option (Int × St) :=
  if x1 < 0 then (some ((-1), G))
  else (if x1 < (G 100 23) then (ckB x1 (3 * P * P) <| ckB x1 (3 * P * P) <| bd (Pl_length P W (G 170 x1) (G 172 x1) G) fun z1 G2 =>
  swt x2 0 [Ho_message_b64 P W x1 G2, Ho_message_b71 P W x1 G2, Ho_message_b78 P W x1 G2, Ho_message_b85 P W z1 G2] (Ho_message_b87 P W x1 x2 z1 G2))
  else (some ((-1), G)))
noncomputable def Pa_product_b113 (P W : Int) (p : Int) (s0 : Int) (s1 : Int) (G : St) : Option (Int × St) :=
  some (j_xo s1 s0, G)
noncomputable def Pa_product_s9 (P W : Int) (p : Int) (x2 : Int) (x3 : Int) (x4 : Int) (x5 : Int) (x6 : Int) (G : St) : Option ((Int × Int × Int × St) ⊕ (Int × St)) :=
  if x6 < P then (ckQ x6 P fun p7 =>
  bd (Pa_bit P W p7 p (G (1000 + 32 * p) 7) x3 G) fun z8 G9 =>
  ckQ x6 P fun p10 =>
  ckI (x3 + 1) <| bd (Pa_bit P W p10 p (G9 (1000 + 32 * p) 7) (x3 + 1) G9) fun z11 G12 =>
  ckI (x6 + 1) <| some (Sum.inl (j_xo x4 z8, j_xo x5 z11, x6 + 1, G12)))
  else (ex (bd (Bt_get (1000 + 32 * p + 9) x2 G) fun z1 G2 =>
  bd (Bt_get (1000 + 32 * p + 7) x2 G2) fun z3 G4 =>
  bd (Bt_get (1000 + 32 * p + 5) x2 G4) fun z5 G6 =>
  if p = 0 then (Pa_product_b113 P W p (j_an x4 x5) (j_xo (j_xo z1 (j_an x4 z3)) (j_an x5 z5)) G6)
  else (Pa_product_b113 P W p 0 (j_xo (j_xo z1 (j_an x4 z3)) (j_an x5 z5)) G6)))
noncomputable def Pa_product_l9 (P W : Int) (p : Int) (x2 : Int) (x3 : Int) (x4 : Int) (x5 : Int) (x6 : Int) (G : St) : Option (Int × St) :=
  wh (fun s => Pa_product_s9 P W p x2 x3 s.1 s.2.1 s.2.2.1 s.2.2.2) (x4, x5, x6, G)
theorem Pa_product_l9_eq (P W : Int) (p : Int) (x2 : Int) (x3 : Int) (x4 : Int) (x5 : Int) (x6 : Int) (G : St) : Pa_product_l9 P W p x2 x3 x4 x5 x6 G = (Pa_product_s9 P W p x2 x3 x4 x5 x6 G).bind (lk (fun s => Pa_product_l9 P W p x2 x3 s.1 s.2.1 s.2.2.1 s.2.2.2) some) := by
  exact wh_eq _ _
noncomputable def Pa_product (P W : Int) (p : Int) (x2 : Int) (x3 : Int) (G : St) : Option (Int × St) :=
  Pa_product_l9 P W p x2 x3 0 0 0 G
noncomputable def Pa_learn_b170 (P W : Int) (p : Int) (x4 : Int) (x5 : Int) (x6 : Int) (s0 : Int) (s1 : Int) (G : St) : Option ((Int × Int × St) ⊕ (Int × St)) :=
  ckI (s1 + s0) <| ckI ((G 140 6) + x5) <| bd (Bt_set (1000 + 32 * p + 1) ((G 140 6) + x5) x6 G) fun _ G6 =>
  ckI (x4 + 1) <| some (Sum.inl (s1 + s0, x4 + 1, G6))
noncomputable def Pa_learn_b152 (P W : Int) (p : Int) (x3 : Int) (x4 : Int) (x5 : Int) (s0 : Int) (G : St) : Option ((Int × Int × St) ⊕ (Int × St)) :=
  ckB x5 40000 <| Pa_learn_b170 P W p x4 x5 s0 (if (G 144 x5) = 0 then 0 else 1) x3 G
noncomputable def Pa_learn_s75 (P W : Int) (p : Int) (x3 : Int) (x4 : Int) (G : St) : Option ((Int × Int × St) ⊕ (Int × St)) :=
  ckI ((G (1000 + 32 * p) 7) + 1) <| ckB ((G (1000 + 32 * p) 7) + 1) 2002 <| if x4 < (G 223 ((G (1000 + 32 * p) 7) + 1)) then (ckB x4 40000 <| ckB (G 221 x4) 40000 <| if (G 144 (G 221 x4)) = 0 then (ckB (G 221 x4) 40000 <| bd (Pa_shareOf p (G 141 (G 221 x4)) G) fun z1 G2 =>
  ckB (G 221 x4) 40000 <| bd (Pa_shareOf p (G2 142 (G 221 x4)) G2) fun z3 G4 =>
  Pa_learn_b152 P W p x3 x4 (G 221 x4) (j_xo z1 z3) G4)
  else (ckI (2 * x3) <| bd (Pa_product P W p (G 221 x4) (2 * x3) G) fun z7 G8 =>
  Pa_learn_b152 P W p x3 x4 (G 221 x4) z7 G8))
  else (ex (some (0, G)))
noncomputable def Pa_learn_l75 (P W : Int) (p : Int) (x3 : Int) (x4 : Int) (G : St) : Option (Int × St) :=
  wh (fun s => Pa_learn_s75 P W p s.1 s.2.1 s.2.2) (x3, x4, G)
theorem Pa_learn_l75_eq (P W : Int) (p : Int) (x3 : Int) (x4 : Int) (G : St) : Pa_learn_l75 P W p x3 x4 G = (Pa_learn_s75 P W p x3 x4 G).bind (lk (fun s => Pa_learn_l75 P W p s.1 s.2.1 s.2.2) some) := by
  exact wh_eq _ _
noncomputable def Pa_learn_b59 (P W : Int) (p : Int) (G : St) : Option (Int × St) :=
  ckB (G (1000 + 32 * p) 7) 2002 <| Pa_learn_l75 P W p 0 (G 223 (G (1000 + 32 * p) 7)) G
noncomputable def Pa_learn_s29 (P W : Int) (p : Int) (x3 : Int) (G : St) : Option ((Int × St) ⊕ (Int × St)) :=
  if x3 < (G 140 6) then (bd (Bt_get (1000 + 32 * p + 3) x3 G) fun z9 G10 =>
  bd (Bt_set (1000 + 32 * p + 1) x3 z9 G10) fun _ G12 =>
  ckI (x3 + 1) <| some (Sum.inl (x3 + 1, G12)))
  else (ex (Pa_learn_b59 P W p G))
noncomputable def Pa_learn_l29 (P W : Int) (p : Int) (x3 : Int) (G : St) : Option (Int × St) :=
  wh (fun s => Pa_learn_s29 P W p s.1 s.2) (x3, G)
theorem Pa_learn_l29_eq (P W : Int) (p : Int) (x3 : Int) (G : St) : Pa_learn_l29 P W p x3 G = (Pa_learn_s29 P W p x3 G).bind (lk (fun s => Pa_learn_l29 P W p s.1 s.2) some) := by
  exact wh_eq _ _
noncomputable def Pa_learn (P W : Int) (p : Int) (G : St) : Option (Int × St) :=
  if (G 140 7) < (G (1000 + 32 * p) 7) then (some (0, G))
  else (if (G (1000 + 32 * p) 7) = 0 then (Pa_learn_l29 P W p 0 G)
  else (Pa_learn_b59 P W p G))
noncomputable def Pa_goes (P W : Int) (p : Int) (G : St) : Option (Int × St) :=
  ckI ((j_sl 1 P) - 1) <| vl (j_xo ((j_sl 1 P) - 1) (j_sl 1 p)) fun v1 =>
  bd (Pa_isDone p G) fun z2 G3 =>
  if z2 = 0 then (if (G3 (1000 + 32 * p) 9) = v1 then (bd (Pa_learn P W p G3) fun _ G5 =>
  ckI ((G5 (1000 + 32 * p) 7) + 1) <| tk (up G5 (1000 + 32 * p) 7 ((G5 (1000 + 32 * p) 7) + 1)) fun G6 =>
  tk (up G6 (1000 + 32 * p) 9 (G6 (1000 + 32 * p) 10)) fun G7 =>
  tk (up G7 (1000 + 32 * p) 10 0) fun G8 =>
  ckB 1 2 (some (1, G8)))
  else (ckB 0 2 (some (0, G3))))
  else (ckB 0 2 (some (0, G3)))
noncomputable def Ar_copyOf (P W : Int) (x0 : Int) (x1 : Int) (G : St) : Option (Int × St) :=
  ckB (ialC P W x0) 2147483648 <| if x1 = (ialC P W x0) then (none)
  else (ckW P W G (x0 + 1) x1 <| tk (nwA G (x0 + 1) x1 0) fun G1 =>
  ckB (ialC P W x0) 2147483648 <| ckA 0 (if x1 < (ialC P W x0) then x1 else (ialC P W x0)) (ialC P W x0) <| ckA 0 (if x1 < (ialC P W x0) then x1 else (ialC P W x0)) (ialC P W (x0 + 1)) <| tk (acp G1 x0 0 (x0 + 1) 0 (if x1 < (ialC P W x0) then x1 else (ialC P W x0))) fun G2 =>
  some (x0 + 1, G2))
noncomputable def Pa_take_b29 (P W : Int) (p : Int) (x1 : Int) (x2 : Int) (G : St) : Option (Int × St) :=
  ckI (16 * x2) <| ckI ((16 * x2) + x1) <| ckB (G (1000 + 32 * p) 8) (ialC P W (G (1000 + 32 * p) 11)) <| tk (up G (G (1000 + 32 * p) 11) (G (1000 + 32 * p) 8) ((16 * x2) + x1)) fun G1 =>
  ckI ((G1 (1000 + 32 * p) 8) + 1) <| tk (up G1 (1000 + 32 * p) 8 ((G1 (1000 + 32 * p) 8) + 1)) fun G2 =>
  if x2 = (G2 (1000 + 32 * p) 7) then (tk (up G2 (1000 + 32 * p) 9 (j_or (G2 (1000 + 32 * p) 9) (j_sl 1 x1))) fun G4 =>
  some (0, G4))
  else (tk (up G2 (1000 + 32 * p) 10 (j_or (G2 (1000 + 32 * p) 10) (j_sl 1 x1))) fun G3 =>
  some (0, G3))
noncomputable def Pa_take (P W : Int) (p : Int) (x1 : Int) (x2 : Int) (G : St) : Option (Int × St) :=
  ckB (ialC P W (G (1000 + 32 * p) 11)) 2147483648 <| if (G (1000 + 32 * p) 8) = (ialC P W (G (1000 + 32 * p) 11)) then (ckI (2 * (G (1000 + 32 * p) 8)) <| bd (Ar_copyOf P W (G (1000 + 32 * p) 11) (2 * (G (1000 + 32 * p) 8)) G) fun z5 G6 =>
  tk (up G6 (1000 + 32 * p) 11 z5) fun G7 =>
  Pa_take_b29 P W p x1 x2 G7)
  else (Pa_take_b29 P W p x1 x2 G)
noncomputable def Ho_deliver_b172 (P W : Int) (p4 : Int) (s0 : Int) (s1 : Int) (G : St) : Option ((Int × St) ⊕ (Int × St)) :=
  ckI (s1 + s0) <| some (Sum.inl (s1 + s0, G))
noncomputable def Ho_deliver_s137 (P W : Int) (p4 : Int) (x5 : Int) (G : St) : Option ((Int × St) ⊕ (Int × St)) :=
  bd (Pa_goes P W p4 G) fun z6 G7 =>
  if z6 = 0 then (ex (some (x5, G7)))
  else (bd (Pa_isDone p4 G7) fun z8 G9 =>
  if z8 = 0 then (bd (Ho_send P W p4 G9) fun z10 G11 =>
  Ho_deliver_b172 P W p4 z10 x5 G11)
  else (Ho_deliver_b172 P W p4 0 x5 G9))
noncomputable def Ho_deliver_l137 (P W : Int) (p4 : Int) (x5 : Int) (G : St) : Option (Int × St) :=
  wh (fun s => Ho_deliver_s137 P W p4 s.1 s.2) (x5, G)
theorem Ho_deliver_l137_eq (P W : Int) (p4 : Int) (x5 : Int) (G : St) : Ho_deliver_l137 P W p4 x5 G = (Ho_deliver_s137 P W p4 x5 G).bind (lk (fun s => Ho_deliver_l137 P W p4 s.1 s.2) some) := by
  exact wh_eq _ _
noncomputable def Ho_deliver_s54 (P W : Int) (x2 : Int) (x3 : Int) (p4 : Int) (x5 : Int) (G : St) : Option ((Int × St) ⊕ (Int × St)) :=
  if x5 < (G 100 23) then (ckI (x5 + 1) <| ckB (x5 + 1) (3 * P * P) <| ckB x5 (3 * P * P) <| tk (up G 170 x5 (G 170 (x5 + 1))) fun G12 =>
  ckI (x5 + 1) <| ckB (x5 + 1) (3 * P * P) <| ckB x5 (3 * P * P) <| tk (up G12 171 x5 (G12 171 (x5 + 1))) fun G13 =>
  ckI (x5 + 1) <| ckB (x5 + 1) (3 * P * P) <| ckB x5 (3 * P * P) <| tk (up G13 172 x5 (G13 172 (x5 + 1))) fun G14 =>
  ckI (x5 + 1) <| some (Sum.inl (x5 + 1, G14)))
  else (ex (ckI ((G 100 24) + 1) <| tk (up G 100 24 ((G 100 24) + 1)) fun G3 =>
  bd (Pa_take P W p4 x2 x3 G3) fun _ G5 =>
  Ho_deliver_l137 P W p4 0 G5))
noncomputable def Ho_deliver_l54 (P W : Int) (x2 : Int) (x3 : Int) (p4 : Int) (x5 : Int) (G : St) : Option (Int × St) :=
  wh (fun s => Ho_deliver_s54 P W x2 x3 p4 s.1 s.2) (x5, G)
theorem Ho_deliver_l54_eq (P W : Int) (x2 : Int) (x3 : Int) (p4 : Int) (x5 : Int) (G : St) : Ho_deliver_l54 P W x2 x3 p4 x5 G = (Ho_deliver_s54 P W x2 x3 p4 x5 G).bind (lk (fun s => Ho_deliver_l54 P W x2 x3 p4 s.1 s.2) some) := by
  exact wh_eq _ _
noncomputable def Ho_deliver (P W : Int) (x1 : Int) (G : St) : Option (Int × St) :=
  if x1 < 0 then (some ((-1), G))
  else (if x1 < (G 100 23) then (ckB x1 (3 * P * P) <| ckB x1 (3 * P * P) <| ckB x1 (3 * P * P) <| ckQ (G 171 x1) P fun p1 =>
  ckI ((G 100 23) - 1) <| tk (up G 100 23 ((G 100 23) - 1)) fun G2 =>
  Ho_deliver_l54 P W (G 170 x1) (G 172 x1) p1 x1 G2)
  else (some ((-1), G)))
noncomputable def Ho_rush_b49 (P W : Int) (x3 : Int) (G : St) : Option (Int × St) :=
  some (x3, G)
noncomputable def Ho_rush_s19 (P W : Int) (x1 : Int) (x2 : Int) (x3 : Int) (G : St) : Option ((Int × St) ⊕ (Int × St)) :=
  if x3 < x1 then (if 0 < (G 100 23) then (ckD x2 (G 100 23) <| bd (Ho_deliver P W (x2 % (G 100 23)) G) fun z1 G2 =>
  ckI (x3 + 1) <| some (Sum.inl (x3 + 1, G2)))
  else (ex (Ho_rush_b49 P W x3 G)))
  else (ex (Ho_rush_b49 P W x3 G))
noncomputable def Ho_rush_l19 (P W : Int) (x1 : Int) (x2 : Int) (x3 : Int) (G : St) : Option (Int × St) :=
  wh (fun s => Ho_rush_s19 P W x1 x2 s.1 s.2) (x3, G)
theorem Ho_rush_l19_eq (P W : Int) (x1 : Int) (x2 : Int) (x3 : Int) (G : St) : Ho_rush_l19 P W x1 x2 x3 G = (Ho_rush_s19 P W x1 x2 x3 G).bind (lk (fun s => Ho_rush_l19 P W x1 x2 s.1 s.2) some) := by
  exact wh_eq _ _
noncomputable def Ho_rush (P W : Int) (x1 : Int) (x2 : Int) (G : St) : Option (Int × St) :=
  if x1 < 0 then (some ((-1), G))
  else (if 100000 < x1 then (some ((-1), G))
  else (if x2 < 0 then (some ((-1), G))
  else (Ho_rush_l19 P W x1 x2 0 G)))
noncomputable def Ho_isParty (P W : Int) (x1 : Int) (G : St) : Option (Int × St) :=
  ckB (if (G 100 19) = 0 then 0 else (if x1 < 0 then 0 else (if x1 < P then 1 else 0))) 2 (some ((if (G 100 19) = 0 then 0 else (if x1 < 0 then 0 else (if x1 < P then 1 else 0))), G))
noncomputable def Pa_ownBits (P W : Int) (p : Int) (G : St) : Option (Int × St) :=
  bd (Pl_owned P W p G) fun z1 G2 =>
  ckI (z1 * P) <| some (z1 * P, G2)
noncomputable def Pa_viewSize_s20 (P W : Int) (p : Int) (x1 : Int) (x2 : Int) (G : St) : Option ((Int × Int × St) ⊕ (Int × St)) :=
  if x2 < (G (1000 + 32 * p) 8) then (ckB x2 (ialC P W (G (1000 + 32 * p) 11)) <| ckD (G (G (1000 + 32 * p) 11) x2) 16 <| ckB x2 (ialC P W (G (1000 + 32 * p) 11)) <| ckD (G (G (1000 + 32 * p) 11) x2) 16 <| bd (Pl_length P W ((G (G (1000 + 32 * p) 11) x2) % 16) ((G (G (1000 + 32 * p) 11) x2) / 16) G) fun z3 G4 =>
  ckI (x1 + z3) <| ckI (x2 + 1) <| some (Sum.inl (x1 + z3, x2 + 1, G4)))
  else (ex (some (x1, G)))
noncomputable def Pa_viewSize_l20 (P W : Int) (p : Int) (x1 : Int) (x2 : Int) (G : St) : Option (Int × St) :=
  wh (fun s => Pa_viewSize_s20 P W p s.1 s.2.1 s.2.2) (x1, x2, G)
theorem Pa_viewSize_l20_eq (P W : Int) (p : Int) (x1 : Int) (x2 : Int) (G : St) : Pa_viewSize_l20 P W p x1 x2 G = (Pa_viewSize_s20 P W p x1 x2 G).bind (lk (fun s => Pa_viewSize_l20 P W p s.1 s.2.1 s.2.2) some) := by
  exact wh_eq _ _
noncomputable def Pa_viewSize (P W : Int) (p : Int) (G : St) : Option (Int × St) :=
  bd (Pa_ownBits P W p G) fun z1 G2 =>
  ckI (3 * (G2 140 5)) <| ckI (z1 + (3 * (G2 140 5))) <| Pa_viewSize_l20 P W p (z1 + (3 * (G2 140 5))) 0 G2
noncomputable def Ho_party (P W : Int) (x1 : Int) (x2 : Int) (G : St) : Option (Int × St) :=
  bd (Ho_isParty P W x1 G) fun z1 G2 =>
  if z1 = 0 then (some ((-1), G2))
  else (if x2 = 0 then (ckQ x1 P fun p7 =>
  some (G2 (1000 + 32 * p7) 7, G2))
  else (if x2 = 1 then (ckQ x1 P fun p6 =>
  some (G2 (1000 + 32 * p6) 8, G2))
  else (if x2 = 2 then (ckQ x1 P fun p3 =>
  bd (Pa_viewSize P W p3 G2) fun z4 G5 =>
  some (z4, G5))
  else (some ((-1), G2)))))
noncomputable def Ho_dealt (P W : Int) (x1 : Int) (x2 : Int) (x3 : Int) (G : St) : Option (Int × St) :=
  bd (Ho_isParty P W x1 G) fun z1 G2 =>
  if z1 = 0 then (some ((-1), G2))
  else (if x2 < 0 then (some ((-1), G2))
  else (if x2 < (G2 140 4) then (ckB x2 40000 <| if (G2 144 x2) = 0 then (some ((-1), G2))
  else (if x3 = 0 then (ckQ x1 P fun p9 =>
  bd (Bt_get (1000 + 32 * p9 + 5) x2 G2) fun z10 G11 =>
  some (z10, G11))
  else (if x3 = 1 then (ckQ x1 P fun p6 =>
  bd (Bt_get (1000 + 32 * p6 + 7) x2 G2) fun z7 G8 =>
  some (z7, G8))
  else (if x3 = 2 then (ckQ x1 P fun p3 =>
  bd (Bt_get (1000 + 32 * p3 + 9) x2 G2) fun z4 G5 =>
  some (z4, G5))
  else (some ((-1), G2))))))
  else (some ((-1), G2))))
noncomputable def Ho_share_b65 (P W : Int) (x1 : Int) (x2 : Int) (s0 : Int) (G : St) : Option (Int × St) :=
  ckQ x1 P fun p3 =>
  if s0 < (G (1000 + 32 * p3) 7) then (ckQ x1 P fun p4 =>
  bd (Bt_get (1000 + 32 * p4 + 1) x2 G) fun z5 G6 =>
  some (z5, G6))
  else (some ((-1), G))
noncomputable def Ho_share (P W : Int) (x1 : Int) (x2 : Int) (G : St) : Option (Int × St) :=
  bd (Ho_isParty P W x1 G) fun z1 G2 =>
  if z1 = 0 then (some ((-1), G2))
  else (if x2 < 0 then (some ((-1), G2))
  else (ckI ((G2 140 6) + (G2 140 4)) <| if x2 < ((G2 140 6) + (G2 140 4)) then (if x2 < (G2 140 6) then (Ho_share_b65 P W x1 x2 0 G2)
  else (ckI (x2 - (G2 140 6)) <| ckB (x2 - (G2 140 6)) 40000 <| Ho_share_b65 P W x1 x2 (G2 143 (x2 - (G2 140 6))) G2))
  else (some ((-1), G2))))
noncomputable def Pa_and_b44 (p : Int) (x3 : Int) (s0 : Int) (s1 : Int) (G : St) : Option ((Int × Int × St) ⊕ (Int × St)) :=
  ckI (s1 - s0) <| ckI (x3 + 1) <| some (Sum.inl (s1 - s0, x3 + 1, G))
noncomputable def Pa_and_b23 (p : Int) (x2 : Int) (x3 : Int) (G : St) : Option ((Int × Int × St) ⊕ (Int × St)) :=
  ckB x3 40000 <| Pa_and_b44 p x3 (if (G 144 x3) = 0 then 0 else 1) x2 G
noncomputable def Pa_and_s4 (p : Int) (x2 : Int) (x3 : Int) (G : St) : Option ((Int × Int × St) ⊕ (Int × St)) :=
  if 0 < x2 then (Pa_and_b23 p x2 x3 G)
  else (ckB x3 40000 <| if (G 144 x3) = 0 then (Pa_and_b23 p x2 x3 G)
  else (ex (some (x3, G))))
noncomputable def Pa_and_l4 (p : Int) (x2 : Int) (x3 : Int) (G : St) : Option (Int × St) :=
  wh (fun s => Pa_and_s4 p s.1 s.2.1 s.2.2) (x2, x3, G)
theorem Pa_and_l4_eq (p : Int) (x2 : Int) (x3 : Int) (G : St) : Pa_and_l4 p x2 x3 G = (Pa_and_s4 p x2 x3 G).bind (lk (fun s => Pa_and_l4 p s.1 s.2.1 s.2.2) some) := by
  exact wh_eq _ _
noncomputable def Pa_and (p : Int) (x1 : Int) (G : St) : Option (Int × St) :=
  Pa_and_l4 p x1 0 G
noncomputable def Pa_view_s216 (P W : Int) (p : Int) (x5 : Int) (x6 : Int) (G : St) : Option ((Int × Int × St) ⊕ (Int × St)) :=
  if x6 < (G (1000 + 32 * p) 8) then (ckB x6 (ialC P W (G (1000 + 32 * p) 11)) <| ckD (G (G (1000 + 32 * p) 11) x6) 16 <| ckB x6 (ialC P W (G (1000 + 32 * p) 11)) <| ckD (G (G (1000 + 32 * p) 11) x6) 16 <| bd (Pl_length P W ((G (G (1000 + 32 * p) 11) x6) % 16) ((G (G (1000 + 32 * p) 11) x6) / 16) G) fun z7 G8 =>
  if x5 < z7 then (ex (ckB x6 (ialC P W (G8 (1000 + 32 * p) 11)) <| ckD (G8 (G8 (1000 + 32 * p) 11) x6) 16 <| ckQ ((G8 (G8 (1000 + 32 * p) 11) x6) % 16) P fun p9 =>
  ckB x6 (ialC P W (G8 (1000 + 32 * p) 11)) <| ckD (G8 (G8 (1000 + 32 * p) 11) x6) 16 <| bd (Pa_bit P W p9 p ((G8 (G8 (1000 + 32 * p) 11) x6) / 16) x5 G8) fun z10 G11 =>
  some (z10, G11)))
  else (ckI (x5 - z7) <| ckI (x6 + 1) <| some (Sum.inl (x5 - z7, x6 + 1, G8))))
  else (ex (some ((-1), G)))
noncomputable def Pa_view_l216 (P W : Int) (p : Int) (x5 : Int) (x6 : Int) (G : St) : Option (Int × St) :=
  wh (fun s => Pa_view_s216 P W p s.1 s.2.1 s.2.2) (x5, x6, G)
theorem Pa_view_l216_eq (P W : Int) (p : Int) (x5 : Int) (x6 : Int) (G : St) : Pa_view_l216 P W p x5 x6 G = (Pa_view_s216 P W p x5 x6 G).bind (lk (fun s => Pa_view_l216 P W p s.1 s.2.1 s.2.2) some) := by
  exact wh_eq _ _
noncomputable def Pa_view_b79 (P W : Int) (p : Int) (x3 : Int) (x4 : Int) (s0 : Int) (G : St) : Option (Int × St) :=
  ckQ s0 P fun p20 =>
  ckI (x3 - x4) <| ckI (P - 1) <| ckD (x3 - x4) (P - 1) <| bd (Pl_wireOf P W p ((x3 - x4) / (P - 1)) G) fun z21 G22 =>
  bd (Bt_get (1000 + 32 * p20 + 3) z21 G22) fun z23 G24 =>
  some (z23, G24)
noncomputable def Pa_view (P W : Int) (p : Int) (x3 : Int) (G : St) : Option (Int × St) :=
  bd (Pl_owned P W p G) fun z1 G2 =>
  if x3 < z1 then (bd (Pl_wireOf P W p x3 G2) fun z25 G26 =>
  bd (Bt_get 105 z25 G26) fun z27 G28 =>
  some (z27, G28))
  else (bd (Pa_ownBits P W p G2) fun z3 G4 =>
  if x3 < z3 then (ckI (x3 - z1) <| ckI (P - 1) <| ckD (x3 - z1) (P - 1) <| if ((x3 - z1) % (P - 1)) < p then (Pa_view_b79 P W p x3 z1 ((x3 - z1) % (P - 1)) G4)
  else (ckI (((x3 - z1) % (P - 1)) + 1) <| Pa_view_b79 P W p x3 z1 (((x3 - z1) % (P - 1)) + 1) G4))
  else (bd (Pa_ownBits P W p G4) fun z5 G6 =>
  ckI (x3 - z5) <| ckI (3 * (G6 140 5)) <| if (x3 - z5) < (3 * (G6 140 5)) then (ckD (x3 - z5) 3 <| bd (Pa_and p ((x3 - z5) / 3) G6) fun z12 G13 =>
  ckD (x3 - z5) 3 <| if ((x3 - z5) % 3) = 0 then (bd (Bt_get (1000 + 32 * p + 5) z12 G13) fun z18 G19 =>
  some (z18, G19))
  else (ckD (x3 - z5) 3 <| if ((x3 - z5) % 3) = 1 then (bd (Bt_get (1000 + 32 * p + 7) z12 G13) fun z16 G17 =>
  some (z16, G17))
  else (bd (Bt_get (1000 + 32 * p + 9) z12 G13) fun z14 G15 =>
  some (z14, G15))))
  else (ckI (3 * (G6 140 5)) <| ckI ((x3 - z5) - (3 * (G6 140 5))) <| Pa_view_l216 P W p ((x3 - z5) - (3 * (G6 140 5))) 0 G6)))
noncomputable def Ho_view (P W : Int) (x1 : Int) (x2 : Int) (G : St) : Option (Int × St) :=
  bd (Ho_isParty P W x1 G) fun z1 G2 =>
  if z1 = 0 then (some ((-1), G2))
  else (if x2 < 0 then (some ((-1), G2))
  else (ckQ x1 P fun p3 =>
  bd (Pa_view P W p3 x2 G2) fun z4 G5 =>
  some (z4, G5)))
noncomputable def Ho_told_b28 (P W : Int) (G : St) : Option (Int × St) :=
  some ((-1), G)
noncomputable def Ho_told_s57 (P W : Int) (x2 : Int) (x3 : Int) (x5 : Int) (x6 : Int) (x7 : Int) (G : St) : Option ((Int × Int × St) ⊕ ((Int × Int × St) ⊕ (Int × St))) :=
  if x7 < P then (ckQ x7 P fun p8 =>
  ckI (W * x2) <| ckI ((W * x2) + x5) <| ckB ((W * x2) + x5) (W * 500) <| bd (Pa_shareOf p8 (G 203 ((W * x2) + x5)) G) fun z9 G10 =>
  ckI (x7 + 1) <| some (Sum.inl (j_xo x6 z9, x7 + 1, G10)))
  else (ex (ckI (x5 + 1) <| some (Sum.inl (j_lor x3 (j_lsl x6 x5), x5 + 1, G))))
noncomputable def Ho_told_l57 (P W : Int) (x2 : Int) (x3 : Int) (x5 : Int) (x6 : Int) (x7 : Int) (G : St) : Option ((Int × Int × St) ⊕ (Int × St)) :=
  wh (fun s => Ho_told_s57 P W x2 x3 x5 s.1 s.2.1 s.2.2) (x6, x7, G)
theorem Ho_told_l57_eq (P W : Int) (x2 : Int) (x3 : Int) (x5 : Int) (x6 : Int) (x7 : Int) (G : St) : Ho_told_l57 P W x2 x3 x5 x6 x7 G = (Ho_told_s57 P W x2 x3 x5 x6 x7 G).bind (lk (fun s => Ho_told_l57 P W x2 x3 x5 s.1 s.2.1 s.2.2) some) := by
  exact wh_eq _ _
noncomputable def Ho_told_s37 (P W : Int) (x2 : Int) (x3 : Int) (x5 : Int) (G : St) : Option ((Int × Int × St) ⊕ (Int × St)) :=
  ckB x2 4000 <| if x5 < (G 204 x2) then (Ho_told_l57 P W x2 x3 x5 0 0 G)
  else (ex (some (x3, G)))
noncomputable def Ho_told_l37 (P W : Int) (x2 : Int) (x3 : Int) (x5 : Int) (G : St) : Option (Int × St) :=
  wh (fun s => Ho_told_s37 P W x2 s.1 s.2.1 s.2.2) (x3, x5, G)
theorem Ho_told_l37_eq (P W : Int) (x2 : Int) (x3 : Int) (x5 : Int) (G : St) : Ho_told_l37 P W x2 x3 x5 G = (Ho_told_s37 P W x2 x3 x5 G).bind (lk (fun s => Ho_told_l37 P W x2 s.1 s.2.1 s.2.2) some) := by
  exact wh_eq _ _
noncomputable def Ho_told (P W : Int) (x1 : Int) (x2 : Int) (G : St) : Option (Int × St) :=
  bd (Ho_isParty P W x1 G) fun z1 G2 =>
  if z1 = 0 then (Ho_told_b28 P W G2)
  else (ckQ x1 P fun p3 =>
  bd (Pa_isDone p3 G2) fun z4 G5 =>
  if z4 = 0 then (Ho_told_b28 P W G5)
  else (bd (Ho_isOutput x2 G5) fun z6 G7 =>
  if z6 = 0 then (Ho_told_b28 P W G7)
  else (Ho_told_l37 P W x2 0 0 G7)))
noncomputable def Ho_plainOf (x1 : Int) (G : St) : Option (Int × St) :=
  if x1 < 0 then (some (j_an x1 1, G))
  else (ckD x1 2 <| bd (Bt_get 107 (x1 / 2) G) fun z1 G2 =>
  some (j_xo z1 (j_an x1 1), G2))
noncomputable def Ho_truth_s195 (P W : Int) (x1 : Int) (x2 : Int) (x4 : Int) (G : St) : Option ((Int × Int × St) ⊕ (Int × St)) :=
  ckB x1 4000 <| if x4 < (G 204 x1) then (ckI (W * x1) <| ckI ((W * x1) + x4) <| ckB ((W * x1) + x4) (W * 500) <| bd (Ho_plainOf (G 203 ((W * x1) + x4)) G) fun z3 G4 =>
  ckI (x4 + 1) <| some (Sum.inl (j_lor x2 (j_lsl z3 x4), x4 + 1, G4)))
  else (ex (some (x2, G)))
noncomputable def Ho_truth_l195 (P W : Int) (x1 : Int) (x2 : Int) (x4 : Int) (G : St) : Option (Int × St) :=
  wh (fun s => Ho_truth_s195 P W x1 s.1 s.2.1 s.2.2) (x2, x4, G)
theorem Ho_truth_l195_eq (P W : Int) (x1 : Int) (x2 : Int) (x4 : Int) (G : St) : Ho_truth_l195 P W x1 x2 x4 G = (Ho_truth_s195 P W x1 x2 x4 G).bind (lk (fun s => Ho_truth_l195 P W x1 s.1 s.2.1 s.2.2) some) := by
  exact wh_eq _ _
noncomputable def Ho_truth_b181 (P W : Int) (x1 : Int) (x2 : Int) (s0 : Int) (s1 : Int) (G : St) : Option ((Int × St) ⊕ (Int × St)) :=
  bd (Bt_set 107 s1 s0 G) fun _ G10 =>
  ckI (x2 + 1) <| some (Sum.inl (x2 + 1, G10))
noncomputable def Ho_truth_s105 (P W : Int) (x1 : Int) (x2 : Int) (G : St) : Option ((Int × St) ⊕ (Int × St)) :=
  if x2 < (G 140 4) then (ckB x2 40000 <| bd (Ho_plainOf (G 141 x2) G) fun z5 G6 =>
  ckB x2 40000 <| bd (Ho_plainOf (G6 142 x2) G6) fun z7 G8 =>
  ckI ((G8 140 6) + x2) <| ckB x2 40000 <| if (G8 144 x2) = 0 then (Ho_truth_b181 P W x1 x2 (j_xo z5 z7) ((G8 140 6) + x2) G8)
  else (Ho_truth_b181 P W x1 x2 (j_an z5 z7) ((G8 140 6) + x2) G8))
  else (ex (Ho_truth_l195 P W x1 0 0 G))
noncomputable def Ho_truth_l105 (P W : Int) (x1 : Int) (x2 : Int) (G : St) : Option (Int × St) :=
  wh (fun s => Ho_truth_s105 P W x1 s.1 s.2) (x2, G)
theorem Ho_truth_l105_eq (P W : Int) (x1 : Int) (x2 : Int) (G : St) : Ho_truth_l105 P W x1 x2 G = (Ho_truth_s105 P W x1 x2 G).bind (lk (fun s => Ho_truth_l105 P W x1 s.1 s.2) some) := by
  exact wh_eq _ _
noncomputable def Ho_truth_b88 (P W : Int) (x1 : Int) (x2 : Int) (x3 : Int) (s0 : Int) (s1 : Int) (G : St) : Option ((Int × St) ⊕ ((Int × St) ⊕ (Int × St))) :=
  bd (Bt_set 107 s1 s0 G) fun _ G12 =>
  ckI (x3 + 1) <| some (Sum.inl (x3 + 1, G12))
noncomputable def Ho_truth_s27 (P W : Int) (x1 : Int) (x2 : Int) (x3 : Int) (G : St) : Option ((Int × St) ⊕ ((Int × St) ⊕ (Int × St))) :=
  ckB x2 256 <| if x3 < (G 183 x2) then (ckB x2 256 <| ckI ((G 182 x2) + x3) <| if (G 100 19) = 0 then (ckB x2 256 <| Ho_truth_b88 P W x1 x2 x3 (j_an (j_sr (G 104 x2) x3) 1) ((G 182 x2) + x3) G)
  else (bd (Bt_get 105 ((G 182 x2) + x3) G) fun z13 G14 =>
  Ho_truth_b88 P W x1 x2 x3 z13 ((G 182 x2) + x3) G14))
  else (ex (ckI (x2 + 1) <| some (Sum.inl (x2 + 1, G))))
noncomputable def Ho_truth_l27 (P W : Int) (x1 : Int) (x2 : Int) (x3 : Int) (G : St) : Option ((Int × St) ⊕ (Int × St)) :=
  wh (fun s => Ho_truth_s27 P W x1 x2 s.1 s.2) (x3, G)
theorem Ho_truth_l27_eq (P W : Int) (x1 : Int) (x2 : Int) (x3 : Int) (G : St) : Ho_truth_l27 P W x1 x2 x3 G = (Ho_truth_s27 P W x1 x2 x3 G).bind (lk (fun s => Ho_truth_l27 P W x1 x2 s.1 s.2) some) := by
  exact wh_eq _ _
noncomputable def Ho_truth_s14 (P W : Int) (x1 : Int) (x2 : Int) (G : St) : Option ((Int × St) ⊕ (Int × St)) :=
  if x2 < (G 180 13) then (Ho_truth_l27 P W x1 x2 0 G)
  else (ex (Ho_truth_l105 P W x1 0 G))
noncomputable def Ho_truth_l14 (P W : Int) (x1 : Int) (x2 : Int) (G : St) : Option (Int × St) :=
  wh (fun s => Ho_truth_s14 P W x1 s.1 s.2) (x2, G)
theorem Ho_truth_l14_eq (P W : Int) (x1 : Int) (x2 : Int) (G : St) : Ho_truth_l14 P W x1 x2 G = (Ho_truth_s14 P W x1 x2 G).bind (lk (fun s => Ho_truth_l14 P W x1 s.1 s.2) some) := by
  exact wh_eq _ _
noncomputable def Ho_truth (P W : Int) (x1 : Int) (G : St) : Option (Int × St) :=
  bd (Ho_isOutput x1 G) fun z1 G2 =>
  if z1 = 0 then (some ((-1), G2))
  else (Ho_truth_l14 P W x1 0 G2)
